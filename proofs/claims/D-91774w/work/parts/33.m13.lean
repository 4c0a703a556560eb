set_option maxRecDepth 100000
/-- SendHallModel.asked(II)I -/
def fX4_asked_b133 (E : g_E) (k22 : Nat → Int32 → Int32 → Int32 → Int32 → g_G → Option (Int32 × g_G)) (t : Nat) (v1 : Int32) (v3 : Int32) (v4 : Int32) (v5 : Int32) (G : g_G) : Option (Int32 × g_G) :=
  k22 t v1 v3 v4 (v5 + 1) G
def fX4_asked_b22 (E : g_E) : Nat → Nat → Int32 → Int32 → Int32 → Int32 → g_G → Option (Int32 × g_G)
  | 0, _, _, _, _, _, _ => none
  | n + 1, t, v1, v3, v4, v5, G =>
    (grR G 4 4 (some t) 26).bind fun x25 =>
    (gaI G 100 x25 v3).bind fun x29 =>
    if x29 ≤ v5 then (
      (grR G 4 4 (some t) 34).bind fun x140 =>
      (gaI G 100 x140 0).bind fun x144 =>
      some (x144, G))
    else (
      (grR G 4 4 (some t) 23).bind fun x34 =>
      (gaI G 100 x34 v5).bind fun x39 =>
      if ¬ x39 = 0 then (
        if x39 < (20 : Int32) then (
          (grR G 4 4 (some t) 34).bind fun x104 =>
          (grR G 4 4 (some t) 34).bind fun x114 =>
          (gaI G 100 x114 ((v4 + (-1)) - 1)).bind fun x121 =>
          (grR G 4 4 (some t) 34).bind fun x123 =>
          (gaI G 100 x123 (v4 + (-1))).bind fun x128 =>
          (fX4_two E x39 x121 x128 G).bind fun z129 =>
          (gsaI E z129.2 x104 ((v4 + (-1)) - 1) z129.1).bind fun G132 =>
          fX4_asked_b133 E (fX4_asked_b22 E n) t v1 v3 (v4 + (-1)) v5 G132)
        else (
          (grR G 4 4 (some t) 34).bind fun x78 =>
          (gchk G 4 (some t)).bind fun b90 =>
          (fX4_valueOf E b90 v1 (x39 - 20) G).bind fun z90 =>
          (gsaI E z90.2 x78 v4 z90.1).bind fun G93 =>
          fX4_asked_b133 E (fX4_asked_b22 E n) t v1 v3 (v4 + 1) v5 G93))
      else (
        (grR G 4 4 (some t) 34).bind fun x51 =>
        (grR G 4 4 (some t) 23).bind fun x57 =>
        (gaI G 100 x57 (v5 + 1)).bind fun x62 =>
        (gsaI E G x51 v4 x62).bind fun G63 =>
        fX4_asked_b133 E (fX4_asked_b22 E n) t v1 v3 (v4 + 1) (v5 + 1) G63))
def fX4_asked (E : g_E) (t : Nat) (v1 : Int32) (v2 : Int32) (G : g_G) : Option (Int32 × g_G) :=
  (gchk G 4 (some t)).bind fun b4 =>
  (fX4_own E b4 v1 0 G).bind fun z4 =>
  (grR z4.2 4 4 (some t) 25).bind fun x15 =>
  (gaI z4.2 100 x15 ((3 * z4.1) + v2)).bind fun x19 =>
  fX4_asked_b22 E gFU t v1 ((3 * z4.1) + v2) 0 x19 z4.2
theorem sX4_asked_b133 {p : Program} {l : Launch} {e : Env} {R : Room} {s : State} {m : MethodId} {args : Array Value} {below : List Frame} {meth : Method} {c : Code} {E : g_E} {D : g_D} (C : gC p R s m args meth c cX4_asked 7 RX4 "asked" (some .int) 3 108 E D) {k22 : Nat → Int32 → Int32 → Int32 → Int32 → g_G → Option (Int32 × g_G)} (hk22 : ∀ (t : Nat) (v1 : Int32) (v3 : Int32) (v4 : Int32) (v5 : Int32) (G : g_G) (q : Int32 × g_G), k22 t v1 v3 v4 v5 G = some q → ∀ (H : Heap) (locs : List Loc) (cells slots : Nat) (ls : Array Slot), gSt E D G H locs → gls ls 7 [(0, .inr (.inr (some t))), (1, .inl v1), (3, .inl v3), (4, .inl v4), (5, .inl v5)] → gT p l e R s m args below meth c E D H locs cells slots (some (.int q.1)) q.2 (F0 m 22 ls [])) : ∀ (t : Nat) (v1 : Int32) (v3 : Int32) (v4 : Int32) (v5 : Int32) (G : g_G) (q : Int32 × g_G), fX4_asked_b133 E k22 t v1 v3 v4 v5 G = some q → ∀ (H : Heap) (locs : List Loc) (cells slots : Nat) (ls : Array Slot), gSt E D G H locs → gls ls 7 [(0, .inr (.inr (some t))), (1, .inl v1), (3, .inl v3), (4, .inl v4), (5, .inl v5)] → gT p l e R s m args below meth c E D H locs cells slots (some (.int q.1)) q.2 (F0 m 133 ls []) := by
  obtain ⟨hx, hb, hml, hown, hts, hKn, hRc, hRs, hc1, hc2, hRf, hRl, hr, hlk, hnm⟩ := id C
  intro t v1 v3 v4 v5 G q h H locs cells slots ls hS hl
  unfold fX4_asked_b133 at h
  refine g_iinc (l1 := [(5, .inl (v5 + 1)), (0, .inr (.inr (some t))), (1, .inl v1), (3, .inl v3), (4, .inl v4)]) (v := (v5 + 1)) hx hb hl (k := 4) rfl (by rfl) (by decide) rfl dX4_asked_133 (fun ls hl => ?_)
  refine lv_goto (tgt := 22) hx hb dX4_asked_136 (by decide) ?_
  exact hk22 _ _ _ _ _ _ _ h _ _ _ _ _ hS (gls_sub hl [1, 2, 3, 4, 0] rfl)
theorem sX4_asked_b22 {p : Program} {l : Launch} {e : Env} {R : Room} {s : State} {m : MethodId} {args : Array Value} {below : List Frame} {meth : Method} {c : Code} {E : g_E} {D : g_D} (C : gC p R s m args meth c cX4_asked 7 RX4 "asked" (some .int) 3 108 E D) : ∀ (n : Nat) (t : Nat) (v1 : Int32) (v3 : Int32) (v4 : Int32) (v5 : Int32) (G : g_G) (q : Int32 × g_G), fX4_asked_b22 E n t v1 v3 v4 v5 G = some q → ∀ (H : Heap) (locs : List Loc) (cells slots : Nat) (ls : Array Slot), gSt E D G H locs → gls ls 7 [(0, .inr (.inr (some t))), (1, .inl v1), (3, .inl v3), (4, .inl v4), (5, .inl v5)] → gT p l e R s m args below meth c E D H locs cells slots (some (.int q.1)) q.2 (F0 m 22 ls []) := by
  obtain ⟨hx, hb, hml, hown, hts, hKn, hRc, hRs, hc1, hc2, hRf, hRl, hr, hlk, hnm⟩ := id C
  intro n
  induction n with
  | zero =>
    intro t v1 v3 v4 v5 G q h
    exact g_no h
  | succ n ih =>
    intro t v1 v3 v4 v5 G q h H locs cells slots ls hS hl
    rw [fX4_asked_b22] at h
    refine g_iload hx hb hl 4 rfl dX4_asked_22 ?_
    refine g_aload_n hx hb hl 0 rfl dX4_asked_24 ?_
    refine g_rdR hx hb hown hts hKn hS h fd_4_4_26 rfl (Or.inl (hts _ q1891)) (fun _ z => z) dX4_asked_25 (fun x25 h => ?_)
    refine g_iload_n hx hb hl 2 rfl dX4_asked_28 ?_
    refine g_ialoadG hx hb hKn hS h dX4_asked_29 (fun x29 h => ?_)
    refine lv_icmp_ge (tgt := 139) hx hb dX4_asked_30 (by decide) (fun c_30 => ?_) (fun c_30 => ?_)
    · have h := g_ift c_30 h
      refine g_aload_n hx hb hl 0 rfl dX4_asked_139 ?_
      refine g_rdR hx hb hown hts hKn hS h fd_4_4_34 rfl (Or.inl (hts _ q1899)) (fun _ z => z) dX4_asked_140 (fun x140 h => ?_)
      refine lv_iconst (v := 0) hx hb dX4_asked_143 (by decide) ?_
      refine g_ialoadG hx hb hKn hS h dX4_asked_144 (fun x144 h => ?_)
      exact g_iretG hx hb hr hlk hKn hRc hRs hS h dX4_asked_145
    · have h := g_iff c_30 h
      refine g_aload_n hx hb hl 0 rfl dX4_asked_33 ?_
      refine g_rdR hx hb hown hts hKn hS h fd_4_4_23 rfl (Or.inl (hts _ q1888)) (fun _ z => z) dX4_asked_34 (fun x34 h => ?_)
      refine g_iload hx hb hl 4 rfl dX4_asked_37 ?_
      refine g_ialoadG hx hb hKn hS h dX4_asked_39 (fun x39 h => ?_)
      refine g_istore (l1 := [(6, .inl x39), (0, .inr (.inr (some t))), (1, .inl v1), (3, .inl v3), (4, .inl v4), (5, .inl v5)]) hx hb hl (by decide) rfl dX4_asked_40 (fun ls hl => ?_)
      refine g_iload hx hb hl 0 rfl dX4_asked_42 ?_
      refine lv_if_ne (tgt := 70) hx hb dX4_asked_44 (by decide) (fun c_44 => ?_) (fun c_44 => ?_)
      · have h := g_ift c_44 h
        refine g_iload hx hb hl 0 rfl dX4_asked_70 ?_
        refine lv_bipush (v := 20) hx hb dX4_asked_72 (by decide) ?_
        refine lv_icmp_lt (tgt := 100) hx hb dX4_asked_74 (by decide) (fun c_74 => ?_) (fun c_74 => ?_)
        · have h := g_ift c_74 h
          refine g_iinc (l1 := [(4, .inl (v4 + (-1))), (6, .inl x39), (0, .inr (.inr (some t))), (1, .inl v1), (3, .inl v3), (5, .inl v5)]) (v := (v4 + (-1))) hx hb hl (k := 4) rfl (by rfl) (by decide) rfl dX4_asked_100 (fun ls hl => ?_)
          refine g_aload_n hx hb hl 2 rfl dX4_asked_103 ?_
          refine g_rdR hx hb hown hts hKn hS h fd_4_4_34 rfl (Or.inl (hts _ q1899)) (fun _ z => z) dX4_asked_104 (fun x104 h => ?_)
          refine g_iload hx hb hl 0 rfl dX4_asked_107 ?_
          refine lv_iconst (v := 1) hx hb dX4_asked_109 (by decide) ?_
          refine lv_isub hx hb dX4_asked_110 ?_
          refine g_iload hx hb hl 1 rfl dX4_asked_111 ?_
          refine g_aload_n hx hb hl 2 rfl dX4_asked_113 ?_
          refine g_rdR hx hb hown hts hKn hS h fd_4_4_34 rfl (Or.inl (hts _ q1899)) (fun _ z => z) dX4_asked_114 (fun x114 h => ?_)
          refine g_iload hx hb hl 0 rfl dX4_asked_117 ?_
          refine lv_iconst (v := 1) hx hb dX4_asked_119 (by decide) ?_
          refine lv_isub hx hb dX4_asked_120 ?_
          refine g_ialoadG hx hb hKn hS h dX4_asked_121 (fun x121 h => ?_)
          refine g_aload_n hx hb hl 2 rfl dX4_asked_122 ?_
          refine g_rdR hx hb hown hts hKn hS h fd_4_4_34 rfl (Or.inl (hts _ q1899)) (fun _ z => z) dX4_asked_123 (fun x123 h => ?_)
          refine g_iload hx hb hl 0 rfl dX4_asked_126 ?_
          refine g_ialoadG hx hb hKn hS h dX4_asked_128 (fun x128 h => ?_)
          obtain ⟨z129, h129, h⟩ := g_bnd h
          refine g_callS (n := 3) (av := [.inl x39, .inl x121, .inl x128]) (rs := [.inl ((v4 + (-1)) - 1), .inr (.inr x104)]) hx hb hml hown hts hKn hRc hRs hS hl (sX4_two l E D h129) (lw_S q2253 q2254 q135 q2255) ⟨by decide, by decide, by decide +kernel⟩ ⟨by rw [hRf]; exact Nat.le_of_ble_eq_true rfl, by rw [hRl]; exact Nat.le_of_ble_eq_true rfl⟩ rfl rfl (Nat.le_of_ble_eq_true rfl) dX4_asked_129 (fun H locs cells slots hS => ?_)
          refine g_iastoreG hx hb hKn hS h dX4_asked_132 (fun G132 h H locs hS => ?_)
          exact sX4_asked_b133 C ih _ _ _ _ _ _ _ h _ _ _ _ _ hS (gls_sub hl [2, 3, 4, 0, 5] rfl)
        · have h := g_iff c_74 h
          refine g_aload_n hx hb hl 1 rfl dX4_asked_77 ?_
          refine g_rdR hx hb hown hts hKn hS h fd_4_4_34 rfl (Or.inl (hts _ q1899)) (fun _ z => z) dX4_asked_78 (fun x78 h => ?_)
          refine g_iload hx hb hl 4 rfl dX4_asked_81 ?_
          refine g_aload_n hx hb hl 1 rfl dX4_asked_83 ?_
          refine g_iload_n hx hb hl 2 rfl dX4_asked_84 ?_
          refine g_iload hx hb hl 0 rfl dX4_asked_85 ?_
          refine lv_bipush (v := 20) hx hb dX4_asked_87 (by decide) ?_
          refine lv_isub hx hb dX4_asked_89 ?_
          obtain ⟨b90, hb90, h⟩ := g_bnd h
          obtain ⟨hr90, hk90⟩ := g_chk hb90
          obtain ⟨z90, h90, h⟩ := g_bnd h
          refine g_callV (n := 2) (b := b90) (av := [.inl v1, .inl (x39 - 20)]) (rs := [.inl v4, .inr (.inr x78)]) hx hb hml hown hts hKn hRc hRs hS hl (sX4_valueOf l E D h90) (lw_V q2249 q2251 qs78 q135 q2252) ⟨rfl, by decide, by decide, by decide +kernel⟩ ⟨by rw [hRf]; exact Nat.le_of_ble_eq_true rfl, by rw [hRl]; exact Nat.le_of_ble_eq_true rfl⟩ (g_recv hKn hS hk90 (by decide) (by decide)) rfl (by rw [hr90]; rfl) (Nat.le_of_ble_eq_true rfl) dX4_asked_90 (fun H locs cells slots hS => ?_)
          refine g_iastoreG hx hb hKn hS h dX4_asked_93 (fun G93 h H locs hS => ?_)
          refine g_iinc (l1 := [(4, .inl (v4 + 1)), (6, .inl x39), (0, .inr (.inr (some t))), (1, .inl v1), (3, .inl v3), (5, .inl v5)]) (v := (v4 + 1)) hx hb hl (k := 4) rfl (by rfl) (by decide) rfl dX4_asked_94 (fun ls hl => ?_)
          refine lv_goto (tgt := 133) hx hb dX4_asked_97 (by decide) ?_
          exact sX4_asked_b133 C ih _ _ _ _ _ _ _ h _ _ _ _ _ hS (gls_sub hl [2, 3, 4, 0, 5] rfl)
      · have h := g_iff (fun z => z c_44) h
        refine g_iinc (l1 := [(5, .inl (v5 + 1)), (6, .inl x39), (0, .inr (.inr (some t))), (1, .inl v1), (3, .inl v3), (4, .inl v4)]) (v := (v5 + 1)) hx hb hl (k := 5) rfl (by rfl) (by decide) rfl dX4_asked_47 (fun ls hl => ?_)
        refine g_aload_n hx hb hl 2 rfl dX4_asked_50 ?_
        refine g_rdR hx hb hown hts hKn hS h fd_4_4_34 rfl (Or.inl (hts _ q1899)) (fun _ z => z) dX4_asked_51 (fun x51 h => ?_)
        refine g_iload hx hb hl 5 rfl dX4_asked_54 ?_
        refine g_aload_n hx hb hl 2 rfl dX4_asked_56 ?_
        refine g_rdR hx hb hown hts hKn hS h fd_4_4_23 rfl (Or.inl (hts _ q1888)) (fun _ z => z) dX4_asked_57 (fun x57 h => ?_)
        refine g_iload hx hb hl 0 rfl dX4_asked_60 ?_
        refine g_ialoadG hx hb hKn hS h dX4_asked_62 (fun x62 h => ?_)
        refine g_iastoreG hx hb hKn hS h dX4_asked_63 (fun G63 h H locs hS => ?_)
        refine g_iinc (l1 := [(4, .inl (v4 + 1)), (5, .inl (v5 + 1)), (6, .inl x39), (0, .inr (.inr (some t))), (1, .inl v1), (3, .inl v3)]) (v := (v4 + 1)) hx hb hl (k := 5) rfl (by rfl) (by decide) rfl dX4_asked_64 (fun ls hl => ?_)
        refine lv_goto (tgt := 133) hx hb dX4_asked_67 (by decide) ?_
        exact sX4_asked_b133 C ih _ _ _ _ _ _ _ h _ _ _ _ _ hS (gls_sub hl [3, 4, 5, 0, 1] rfl)
theorem sX4_asked (l : Launch) (E : g_E) (D : g_D) {t : Nat} {v1 : Int32} {v2 : Int32} {G : g_G} {q : Int32 × g_G} (h : fX4_asked E t v1 v2 G = some q) : gMet l E D yX4_asked (ws_ yX4_asked cX4_asked 7 (some .int)) 3 108 [.inr (.inr (some t)), .inl v1, .inl v2] G (some (.int q.1)) q.2 := by
  refine gMet.of (by decide +kernel) (Nat.le_of_ble_eq_true rfl) ?_
  intro p e R s m args below meth c C hS ls hl
  have C : gC p R s m args meth c cX4_asked 7 RX4 "asked" (some .int) 3 108 E D := C
  obtain ⟨hx, hb, hml, hown, hts, hKn, hRc, hRs, hc1, hc2, hRf, hRl, hr, hlk, hnm⟩ := id C
  have hl : gls ls 7 [(0, .inr (.inr (some t))), (1, .inl v1), (2, .inl v2)] := hl
  generalize s.heap = H at hS ⊢
  unfold fX4_asked at h
  refine lv_iconst (v := 3) hx hb dX4_asked_0 (by decide) ?_
  refine g_aload_n hx hb hl 0 rfl dX4_asked_1 ?_
  refine g_iload_n hx hb hl 1 rfl dX4_asked_2 ?_
  refine lv_iconst (v := 0) hx hb dX4_asked_3 (by decide) ?_
  obtain ⟨b4, hb4, h⟩ := g_bnd h
  obtain ⟨hr4, hk4⟩ := g_chk hb4
  obtain ⟨z4, h4, h⟩ := g_bnd h
  refine g_callV (n := 2) (b := b4) (av := [.inl v1, .inl 0]) (rs := [.inl 3]) hx hb hml hown hts hKn hRc hRs hS hl (sX4_own l E D h4) (lw_V q2245 q2247 qs77 q135 q2248) ⟨rfl, by decide, by decide, by decide +kernel⟩ ⟨by rw [hRf]; exact Nat.le_of_ble_eq_true rfl, by rw [hRl]; exact Nat.le_of_ble_eq_true rfl⟩ (g_recv hKn hS hk4 (by decide) (by decide)) rfl (by rw [hr4]; rfl) (Nat.le_of_ble_eq_true rfl) dX4_asked_4 (fun H locs cells slots hS => ?_)
  refine lv_imul hx hb dX4_asked_7 ?_
  refine g_iload_n hx hb hl 2 rfl dX4_asked_8 ?_
  refine lv_iadd hx hb dX4_asked_9 ?_
  refine g_istore_n (l1 := [(3, .inl ((3 * z4.1) + v2)), (0, .inr (.inr (some t))), (1, .inl v1), (2, .inl v2)]) hx hb hl (by decide) rfl dX4_asked_10 (fun ls hl => ?_)
  refine lv_iconst (v := 0) hx hb dX4_asked_11 (by decide) ?_
  refine g_istore (l1 := [(4, .inl 0), (3, .inl ((3 * z4.1) + v2)), (0, .inr (.inr (some t))), (1, .inl v1), (2, .inl v2)]) hx hb hl (by decide) rfl dX4_asked_12 (fun ls hl => ?_)
  refine g_aload_n hx hb hl 2 rfl dX4_asked_14 ?_
  refine g_rdR hx hb hown hts hKn hS h fd_4_4_25 rfl (Or.inl (hts _ q1890)) (fun _ z => z) dX4_asked_15 (fun x15 h => ?_)
  refine g_iload_n hx hb hl 1 rfl dX4_asked_18 ?_
  refine g_ialoadG hx hb hKn hS h dX4_asked_19 (fun x19 h => ?_)
  refine g_istore (l1 := [(5, .inl x19), (4, .inl 0), (3, .inl ((3 * z4.1) + v2)), (0, .inr (.inr (some t))), (1, .inl v1), (2, .inl v2)]) hx hb hl (by decide) rfl dX4_asked_20 (fun ls hl => ?_)
  exact sX4_asked_b22 C gFU _ _ _ _ _ _ _ h _ _ _ _ _ hS (gls_sub hl [3, 4, 2, 1, 0] rfl)
/-- SendHallModel.begun(I)I -/
def fX4_begun_b60 (E : g_E) (k4 : Nat → Int32 → Int32 → Int32 → g_G → Option (Int32 × g_G)) (t : Nat) (v1 : Int32) (v3 : Int32) (s0 : Int32) (s1 : Int32) (G : g_G) : Option (Int32 × g_G) :=
  k4 t v1 (s0 ||| s1) (v3 + 1) G
def fX4_begun_b59 (E : g_E) (k4 : Nat → Int32 → Int32 → Int32 → g_G → Option (Int32 × g_G)) (t : Nat) (v1 : Int32) (v3 : Int32) (s0 : Int32) (G : g_G) : Option (Int32 × g_G) :=
  fX4_begun_b60 E k4 t v1 v3 s0 0 G
def fX4_begun_b4 (E : g_E) : Nat → Nat → Int32 → Int32 → Int32 → g_G → Option (Int32 × g_G)
  | 0, _, _, _, _, _ => none
  | n + 1, t, v1, v2, v3, G =>
    (gchk G 4 (some t)).bind fun b6 =>
    (fX4_words E b6 G).bind fun z6 =>
    if z6.1 ≤ v3 then (
      some (v2, z6.2))
    else (
      (fX4_wordAt E v3 z6.2).bind fun z13 =>
      (grR z13.2 4 4 (some t) 33).bind fun x20 =>
      (gaI z13.2 100 x20 (z13.1 + 0)).bind fun x27 =>
      if ¬ x27 = v1 then (
        fX4_begun_b59 E (fX4_begun_b4 E n) t v1 v3 v2 z13.2)
      else (
        (grR z13.2 4 4 (some t) 33).bind fun x33 =>
        (gaI z13.2 100 x33 (z13.1 + 5)).bind fun x40 =>
        if ¬ x40 = (1 : Int32) then (
          fX4_begun_b59 E (fX4_begun_b4 E n) t v1 v3 v2 z13.2)
        else (
          (grR z13.2 4 4 (some t) 33).bind fun x47 =>
          (gaI z13.2 100 x47 (z13.1 + 1)).bind fun x54 =>
          fX4_begun_b60 E (fX4_begun_b4 E n) t v1 v3 v2 (1 <<< (x54 &&& 31)) z13.2)))
def fX4_begun (E : g_E) (t : Nat) (v1 : Int32) (G : g_G) : Option (Int32 × g_G) :=
  fX4_begun_b4 E gFU t v1 0 0 G
theorem sX4_begun_b60 {p : Program} {l : Launch} {e : Env} {R : Room} {s : State} {m : MethodId} {args : Array Value} {below : List Frame} {meth : Method} {c : Code} {E : g_E} {D : g_D} (C : gC p R s m args meth c cX4_begun 5 RX4 "begun" (some .int) 2 84 E D) {k4 : Nat → Int32 → Int32 → Int32 → g_G → Option (Int32 × g_G)} (hk4 : ∀ (t : Nat) (v1 : Int32) (v2 : Int32) (v3 : Int32) (G : g_G) (q : Int32 × g_G), k4 t v1 v2 v3 G = some q → ∀ (H : Heap) (locs : List Loc) (cells slots : Nat) (ls : Array Slot), gSt E D G H locs → gls ls 5 [(0, .inr (.inr (some t))), (1, .inl v1), (2, .inl v2), (3, .inl v3)] → gT p l e R s m args below meth c E D H locs cells slots (some (.int q.1)) q.2 (F0 m 4 ls [])) : ∀ (t : Nat) (v1 : Int32) (v3 : Int32) (s0 : Int32) (s1 : Int32) (G : g_G) (q : Int32 × g_G), fX4_begun_b60 E k4 t v1 v3 s0 s1 G = some q → ∀ (H : Heap) (locs : List Loc) (cells slots : Nat) (ls : Array Slot), gSt E D G H locs → gls ls 5 [(0, .inr (.inr (some t))), (1, .inl v1), (3, .inl v3)] → gT p l e R s m args below meth c E D H locs cells slots (some (.int q.1)) q.2 (F0 m 60 ls [.int s1, .int s0]) := by
  obtain ⟨hx, hb, hml, hown, hts, hKn, hRc, hRs, hc1, hc2, hRf, hRl, hr, hlk, hnm⟩ := id C
  intro t v1 v3 s0 s1 G q h H locs cells slots ls hS hl
  unfold fX4_begun_b60 at h
  refine lv_ior hx hb dX4_begun_60 ?_
  refine g_istore_n (l1 := [(2, .inl (s0 ||| s1)), (0, .inr (.inr (some t))), (1, .inl v1), (3, .inl v3)]) hx hb hl (by decide) rfl dX4_begun_61 (fun ls hl => ?_)
  refine g_iinc (l1 := [(3, .inl (v3 + 1)), (2, .inl (s0 ||| s1)), (0, .inr (.inr (some t))), (1, .inl v1)]) (v := (v3 + 1)) hx hb hl (k := 3) rfl (by rfl) (by decide) rfl dX4_begun_62 (fun ls hl => ?_)
  refine lv_goto (tgt := 4) hx hb dX4_begun_65 (by decide) ?_
  exact hk4 _ _ _ _ _ _ h _ _ _ _ _ hS (gls_sub hl [2, 3, 1, 0] rfl)
theorem sX4_begun_b59 {p : Program} {l : Launch} {e : Env} {R : Room} {s : State} {m : MethodId} {args : Array Value} {below : List Frame} {meth : Method} {c : Code} {E : g_E} {D : g_D} (C : gC p R s m args meth c cX4_begun 5 RX4 "begun" (some .int) 2 84 E D) {k4 : Nat → Int32 → Int32 → Int32 → g_G → Option (Int32 × g_G)} (hk4 : ∀ (t : Nat) (v1 : Int32) (v2 : Int32) (v3 : Int32) (G : g_G) (q : Int32 × g_G), k4 t v1 v2 v3 G = some q → ∀ (H : Heap) (locs : List Loc) (cells slots : Nat) (ls : Array Slot), gSt E D G H locs → gls ls 5 [(0, .inr (.inr (some t))), (1, .inl v1), (2, .inl v2), (3, .inl v3)] → gT p l e R s m args below meth c E D H locs cells slots (some (.int q.1)) q.2 (F0 m 4 ls [])) : ∀ (t : Nat) (v1 : Int32) (v3 : Int32) (s0 : Int32) (G : g_G) (q : Int32 × g_G), fX4_begun_b59 E k4 t v1 v3 s0 G = some q → ∀ (H : Heap) (locs : List Loc) (cells slots : Nat) (ls : Array Slot), gSt E D G H locs → gls ls 5 [(0, .inr (.inr (some t))), (1, .inl v1), (3, .inl v3)] → gT p l e R s m args below meth c E D H locs cells slots (some (.int q.1)) q.2 (F0 m 59 ls [.int s0]) := by
  obtain ⟨hx, hb, hml, hown, hts, hKn, hRc, hRs, hc1, hc2, hRf, hRl, hr, hlk, hnm⟩ := id C
  intro t v1 v3 s0 G q h H locs cells slots ls hS hl
  unfold fX4_begun_b59 at h
  refine lv_iconst (v := 0) hx hb dX4_begun_59 (by decide) ?_
  exact sX4_begun_b60 C hk4 _ _ _ _ _ _ _ h _ _ _ _ _ hS (gls_sub hl [0, 1, 2] rfl)
theorem sX4_begun_b4 {p : Program} {l : Launch} {e : Env} {R : Room} {s : State} {m : MethodId} {args : Array Value} {below : List Frame} {meth : Method} {c : Code} {E : g_E} {D : g_D} (C : gC p R s m args meth c cX4_begun 5 RX4 "begun" (some .int) 2 84 E D) : ∀ (n : Nat) (t : Nat) (v1 : Int32) (v2 : Int32) (v3 : Int32) (G : g_G) (q : Int32 × g_G), fX4_begun_b4 E n t v1 v2 v3 G = some q → ∀ (H : Heap) (locs : List Loc) (cells slots : Nat) (ls : Array Slot), gSt E D G H locs → gls ls 5 [(0, .inr (.inr (some t))), (1, .inl v1), (2, .inl v2), (3, .inl v3)] → gT p l e R s m args below meth c E D H locs cells slots (some (.int q.1)) q.2 (F0 m 4 ls []) := by
  obtain ⟨hx, hb, hml, hown, hts, hKn, hRc, hRs, hc1, hc2, hRf, hRl, hr, hlk, hnm⟩ := id C
  intro n
  induction n with
  | zero =>
    intro t v1 v2 v3 G q h
    exact g_no h
  | succ n ih =>
    intro t v1 v2 v3 G q h H locs cells slots ls hS hl
    rw [fX4_begun_b4] at h
    refine g_iload_n hx hb hl 3 rfl dX4_begun_4 ?_
    refine g_aload_n hx hb hl 0 rfl dX4_begun_5 ?_
    obtain ⟨b6, hb6, h⟩ := g_bnd h
    obtain ⟨hr6, hk6⟩ := g_chk hb6
    obtain ⟨z6, h6, h⟩ := g_bnd h
    refine g_callV (n := 0) (b := b6) (av := []) (rs := [.inl v3]) hx hb hml hown hts hKn hRc hRs hS hl (sX4_words l E D h6) (lw_V q2264 q2266 qs81 q135 q2267) ⟨rfl, by decide, by decide, by decide +kernel⟩ ⟨by rw [hRf]; exact Nat.le_of_ble_eq_true rfl, by rw [hRl]; exact Nat.le_of_ble_eq_true rfl⟩ (g_recv hKn hS hk6 (by decide) (by decide)) rfl (by rw [hr6]; rfl) (Nat.le_of_ble_eq_true rfl) dX4_begun_6 (fun H locs cells slots hS => ?_)
    refine lv_icmp_ge (tgt := 68) hx hb dX4_begun_9 (by decide) (fun c_9 => ?_) (fun c_9 => ?_)
    · have h := g_ift c_9 h
      refine g_iload_n hx hb hl 2 rfl dX4_begun_68 ?_
      exact g_iretG hx hb hr hlk hKn hRc hRs hS h dX4_begun_69
    · have h := g_iff c_9 h
      refine g_iload_n hx hb hl 3 rfl dX4_begun_12 ?_
      obtain ⟨z13, h13, h⟩ := g_bnd h
      refine g_callS (n := 1) (av := [.inl v3]) (rs := []) hx hb hml hown hts hKn hRc hRs hS hl (sX4_wordAt l E D h13) (lw_S q2292 q2293 q135 q2294) ⟨by decide, by decide, by decide +kernel⟩ ⟨by rw [hRf]; exact Nat.le_of_ble_eq_true rfl, by rw [hRl]; exact Nat.le_of_ble_eq_true rfl⟩ rfl rfl (Nat.le_of_ble_eq_true rfl) dX4_begun_13 (fun H locs cells slots hS => ?_)
      refine g_istore (l1 := [(4, .inl z13.1), (0, .inr (.inr (some t))), (1, .inl v1), (2, .inl v2), (3, .inl v3)]) hx hb hl (by decide) rfl dX4_begun_16 (fun ls hl => ?_)
      refine g_iload_n hx hb hl 3 rfl dX4_begun_18 ?_
      refine g_aload_n hx hb hl 1 rfl dX4_begun_19 ?_
      refine g_rdR hx hb hown hts hKn hS h fd_4_4_33 rfl (Or.inl (hts _ q1898)) (fun _ z => z) dX4_begun_20 (fun x20 h => ?_)
      refine g_iload hx hb hl 0 rfl dX4_begun_23 ?_
      refine lv_iconst (v := 0) hx hb dX4_begun_25 (by decide) ?_
      refine lv_iadd hx hb dX4_begun_26 ?_
      refine g_ialoadG hx hb hKn hS h dX4_begun_27 (fun x27 h => ?_)
      refine g_iload_n hx hb hl 2 rfl dX4_begun_28 ?_
      refine lv_icmp_ne (tgt := 59) hx hb dX4_begun_29 (by decide) (fun c_29 => ?_) (fun c_29 => ?_)
      · have h := g_ift c_29 h
        exact sX4_begun_b59 C ih _ _ _ _ _ _ h _ _ _ _ _ hS (gls_sub hl [1, 2, 4] rfl)
      · have h := g_iff (fun z => z c_29) h
        refine g_aload_n hx hb hl 1 rfl dX4_begun_32 ?_
        refine g_rdR hx hb hown hts hKn hS h fd_4_4_33 rfl (Or.inl (hts _ q1898)) (fun _ z => z) dX4_begun_33 (fun x33 h => ?_)
        refine g_iload hx hb hl 0 rfl dX4_begun_36 ?_
        refine lv_iconst (v := 5) hx hb dX4_begun_38 (by decide) ?_
        refine lv_iadd hx hb dX4_begun_39 ?_
        refine g_ialoadG hx hb hKn hS h dX4_begun_40 (fun x40 h => ?_)
        refine lv_iconst (v := 1) hx hb dX4_begun_41 (by decide) ?_
        refine lv_icmp_ne (tgt := 59) hx hb dX4_begun_42 (by decide) (fun c_42 => ?_) (fun c_42 => ?_)
        · have h := g_ift c_42 h
          exact sX4_begun_b59 C ih _ _ _ _ _ _ h _ _ _ _ _ hS (gls_sub hl [1, 2, 4] rfl)
        · have h := g_iff (fun z => z c_42) h
          refine lv_iconst (v := 1) hx hb dX4_begun_45 (by decide) ?_
          refine g_aload_n hx hb hl 1 rfl dX4_begun_46 ?_
          refine g_rdR hx hb hown hts hKn hS h fd_4_4_33 rfl (Or.inl (hts _ q1898)) (fun _ z => z) dX4_begun_47 (fun x47 h => ?_)
          refine g_iload hx hb hl 0 rfl dX4_begun_50 ?_
          refine lv_iconst (v := 1) hx hb dX4_begun_52 (by decide) ?_
          refine lv_iadd hx hb dX4_begun_53 ?_
          refine g_ialoadG hx hb hKn hS h dX4_begun_54 (fun x54 h => ?_)
          refine lv_ishl hx hb dX4_begun_55 ?_
          refine lv_goto (tgt := 60) hx hb dX4_begun_56 (by decide) ?_
          exact sX4_begun_b60 C ih _ _ _ _ _ _ _ h _ _ _ _ _ hS (gls_sub hl [1, 2, 4] rfl)
theorem sX4_begun (l : Launch) (E : g_E) (D : g_D) {t : Nat} {v1 : Int32} {G : g_G} {q : Int32 × g_G} (h : fX4_begun E t v1 G = some q) : gMet l E D yX4_begun (ws_ yX4_begun cX4_begun 5 (some .int)) 2 84 [.inr (.inr (some t)), .inl v1] G (some (.int q.1)) q.2 := by
  refine gMet.of (by decide +kernel) (Nat.le_of_ble_eq_true rfl) ?_
  intro p e R s m args below meth c C hS ls hl
  have C : gC p R s m args meth c cX4_begun 5 RX4 "begun" (some .int) 2 84 E D := C
  obtain ⟨hx, hb, hml, hown, hts, hKn, hRc, hRs, hc1, hc2, hRf, hRl, hr, hlk, hnm⟩ := id C
  have hl : gls ls 5 [(0, .inr (.inr (some t))), (1, .inl v1)] := hl
  generalize s.heap = H at hS ⊢
  unfold fX4_begun at h
  refine lv_iconst (v := 0) hx hb dX4_begun_0 (by decide) ?_
  refine g_istore_n (l1 := [(2, .inl 0), (0, .inr (.inr (some t))), (1, .inl v1)]) hx hb hl (by decide) rfl dX4_begun_1 (fun ls hl => ?_)
  refine lv_iconst (v := 0) hx hb dX4_begun_2 (by decide) ?_
  refine g_istore_n (l1 := [(3, .inl 0), (2, .inl 0), (0, .inr (.inr (some t))), (1, .inl v1)]) hx hb hl (by decide) rfl dX4_begun_3 (fun ls hl => ?_)
  exact sX4_begun_b4 C gFU _ _ _ _ _ _ h _ _ _ _ _ hS (gls_sub hl [2, 3, 1, 0] rfl)
/-- SendHallModel.bring(I)V -/
def fX4_bring_b55 (E : g_E) : Nat → Nat → Int32 → Int32 → g_G → Option (g_G)
  | 0, _, _, _, _ => none
  | n + 1, t, v3, v4, G =>
    if v3 ≤ v4 then (
      some G)
    else (
      (grR G 4 4 (some t) 33).bind fun x62 =>
      (gsaI E G x62 v4 0).bind fun G68 =>
      fX4_bring_b55 E n t v3 (v4 + 1) G68)
def fX4_bring_b20 (E : g_E) : Nat → Nat → Int32 → Int32 → Int32 → Int32 → g_G → Option (g_G)
  | 0, _, _, _, _, _, _ => none
  | n + 1, t, v1, v2, v3, v4, G =>
    if v2 ≤ v4 then (
      fX4_bring_b55 E gFU t v3 v2 G)
    else (
      (grR G 4 4 (some t) 33).bind fun x27 =>
      (grR G 4 4 (some t) 43).bind fun x33 =>
      (gaI G 100 x33 ((1985 * v1) + v4)).bind fun x44 =>
      (gsaI E G x27 v4 x44).bind fun G45 =>
      fX4_bring_b20 E n t v1 v2 v3 (v4 + 1) G45)
def fX4_bring (E : g_E) (t : Nat) (v1 : Int32) (G : g_G) : Option (g_G) :=
  (gchk G 4 (some t)).bind fun b2 =>
  (fX4_used E b2 v1 G).bind fun z2 =>
  (gchk z2.2 4 (some t)).bind fun b11 =>
  (fX4_words E b11 z2.2).bind fun z11 =>
  fX4_bring_b20 E gFU t v1 z2.1 (65 + (6 * z11.1)) 0 z11.2
theorem sX4_bring_b55 {p : Program} {l : Launch} {e : Env} {R : Room} {s : State} {m : MethodId} {args : Array Value} {below : List Frame} {meth : Method} {c : Code} {E : g_E} {D : g_D} (C : gC p R s m args meth c cX4_bring 5 RX4 "bring" (none) 2 85 E D) : ∀ (n : Nat) (t : Nat) (v3 : Int32) (v4 : Int32) (G : g_G) (q : g_G), fX4_bring_b55 E n t v3 v4 G = some q → ∀ (H : Heap) (locs : List Loc) (cells slots : Nat) (ls : Array Slot), gSt E D G H locs → gls ls 5 [(0, .inr (.inr (some t))), (3, .inl v3), (4, .inl v4)] → gT p l e R s m args below meth c E D H locs cells slots none q (F0 m 55 ls []) := by
  obtain ⟨hx, hb, hml, hown, hts, hKn, hRc, hRs, hc1, hc2, hRf, hRl, hr, hlk, hnm⟩ := id C
  intro n
  induction n with
  | zero =>
    intro t v3 v4 G q h
    exact g_no h
  | succ n ih =>
    intro t v3 v4 G q h H locs cells slots ls hS hl
    rw [fX4_bring_b55] at h
    refine g_iload hx hb hl 2 rfl dX4_bring_55 ?_
    refine g_iload_n hx hb hl 1 rfl dX4_bring_57 ?_
    refine lv_icmp_ge (tgt := 75) hx hb dX4_bring_58 (by decide) (fun c_58 => ?_) (fun c_58 => ?_)
    · have h := g_ift c_58 h
      exact g_vretG hx hb hr hlk hKn hRc hRs hS h dX4_bring_75
    · have h := g_iff c_58 h
      refine g_aload_n hx hb hl 0 rfl dX4_bring_61 ?_
      refine g_rdR hx hb hown hts hKn hS h fd_4_4_33 rfl (Or.inl (hts _ q1898)) (fun _ z => z) dX4_bring_62 (fun x62 h => ?_)
      refine g_iload hx hb hl 2 rfl dX4_bring_65 ?_
      refine lv_iconst (v := 0) hx hb dX4_bring_67 (by decide) ?_
      refine g_iastoreG hx hb hKn hS h dX4_bring_68 (fun G68 h H locs hS => ?_)
      refine g_iinc (l1 := [(4, .inl (v4 + 1)), (0, .inr (.inr (some t))), (3, .inl v3)]) (v := (v4 + 1)) hx hb hl (k := 2) rfl (by rfl) (by decide) rfl dX4_bring_69 (fun ls hl => ?_)
      refine lv_goto (tgt := 55) hx hb dX4_bring_72 (by decide) ?_
      exact ih _ _ _ _ _ h _ _ _ _ _ hS (gls_sub hl [1, 2, 0] rfl)
theorem sX4_bring_b20 {p : Program} {l : Launch} {e : Env} {R : Room} {s : State} {m : MethodId} {args : Array Value} {below : List Frame} {meth : Method} {c : Code} {E : g_E} {D : g_D} (C : gC p R s m args meth c cX4_bring 5 RX4 "bring" (none) 2 85 E D) : ∀ (n : Nat) (t : Nat) (v1 : Int32) (v2 : Int32) (v3 : Int32) (v4 : Int32) (G : g_G) (q : g_G), fX4_bring_b20 E n t v1 v2 v3 v4 G = some q → ∀ (H : Heap) (locs : List Loc) (cells slots : Nat) (ls : Array Slot), gSt E D G H locs → gls ls 5 [(0, .inr (.inr (some t))), (1, .inl v1), (2, .inl v2), (3, .inl v3), (4, .inl v4)] → gT p l e R s m args below meth c E D H locs cells slots none q (F0 m 20 ls []) := by
  obtain ⟨hx, hb, hml, hown, hts, hKn, hRc, hRs, hc1, hc2, hRf, hRl, hr, hlk, hnm⟩ := id C
  intro n
  induction n with
  | zero =>
    intro t v1 v2 v3 v4 G q h
    exact g_no h
  | succ n ih =>
    intro t v1 v2 v3 v4 G q h H locs cells slots ls hS hl
    rw [fX4_bring_b20] at h
    refine g_iload hx hb hl 4 rfl dX4_bring_20 ?_
    refine g_iload_n hx hb hl 2 rfl dX4_bring_22 ?_
    refine lv_icmp_ge (tgt := 52) hx hb dX4_bring_23 (by decide) (fun c_23 => ?_) (fun c_23 => ?_)
    · have h := g_ift c_23 h
      refine g_iload_n hx hb hl 2 rfl dX4_bring_52 ?_
      refine g_istore (l1 := [(4, .inl v2), (0, .inr (.inr (some t))), (1, .inl v1), (2, .inl v2), (3, .inl v3)]) hx hb hl (by decide) rfl dX4_bring_53 (fun ls hl => ?_)
      exact sX4_bring_b55 C gFU _ _ _ _ _ h _ _ _ _ _ hS (gls_sub hl [1, 4, 0] rfl)
    · have h := g_iff c_23 h
      refine g_aload_n hx hb hl 0 rfl dX4_bring_26 ?_
      refine g_rdR hx hb hown hts hKn hS h fd_4_4_33 rfl (Or.inl (hts _ q1898)) (fun _ z => z) dX4_bring_27 (fun x27 h => ?_)
      refine g_iload hx hb hl 4 rfl dX4_bring_30 ?_
      refine g_aload_n hx hb hl 0 rfl dX4_bring_32 ?_
      refine g_rdR hx hb hown hts hKn hS h fd_4_4_43 rfl (Or.inl (hts _ q1908)) (fun _ z => z) dX4_bring_33 (fun x33 h => ?_)
      refine lv_sipush (v := 1985) hx hb dX4_bring_36 (by decide) ?_
      refine g_iload_n hx hb hl 1 rfl dX4_bring_39 ?_
      refine lv_imul hx hb dX4_bring_40 ?_
      refine g_iload hx hb hl 4 rfl dX4_bring_41 ?_
      refine lv_iadd hx hb dX4_bring_43 ?_
      refine g_ialoadG hx hb hKn hS h dX4_bring_44 (fun x44 h => ?_)
      refine g_iastoreG hx hb hKn hS h dX4_bring_45 (fun G45 h H locs hS => ?_)
      refine g_iinc (l1 := [(4, .inl (v4 + 1)), (0, .inr (.inr (some t))), (1, .inl v1), (2, .inl v2), (3, .inl v3)]) (v := (v4 + 1)) hx hb hl (k := 4) rfl (by rfl) (by decide) rfl dX4_bring_46 (fun ls hl => ?_)
      refine lv_goto (tgt := 20) hx hb dX4_bring_49 (by decide) ?_
      exact ih _ _ _ _ _ _ _ h _ _ _ _ _ hS (gls_sub hl [1, 2, 3, 4, 0] rfl)
theorem sX4_bring (l : Launch) (E : g_E) (D : g_D) {t : Nat} {v1 : Int32} {G : g_G} {q : g_G} (h : fX4_bring E t v1 G = some q) : gMet l E D yX4_bring (ws_ yX4_bring cX4_bring 5 (none)) 2 85 [.inr (.inr (some t)), .inl v1] G none q := by
  refine gMet.of (by decide +kernel) (Nat.le_of_ble_eq_true rfl) ?_
  intro p e R s m args below meth c C hS ls hl
  have C : gC p R s m args meth c cX4_bring 5 RX4 "bring" (none) 2 85 E D := C
  obtain ⟨hx, hb, hml, hown, hts, hKn, hRc, hRs, hc1, hc2, hRf, hRl, hr, hlk, hnm⟩ := id C
  have hl : gls ls 5 [(0, .inr (.inr (some t))), (1, .inl v1)] := hl
  generalize s.heap = H at hS ⊢
  unfold fX4_bring at h
  refine g_aload_n hx hb hl 0 rfl dX4_bring_0 ?_
  refine g_iload_n hx hb hl 1 rfl dX4_bring_1 ?_
  obtain ⟨b2, hb2, h⟩ := g_bnd h
  obtain ⟨hr2, hk2⟩ := g_chk hb2
  obtain ⟨z2, h2, h⟩ := g_bnd h
  refine g_callV (n := 1) (b := b2) (av := [.inl v1]) (rs := []) hx hb hml hown hts hKn hRc hRs hS hl (sX4_used l E D h2) (lw_V q2268 q2270 qs82 q135 q2271) ⟨rfl, by decide, by decide, by decide +kernel⟩ ⟨by rw [hRf]; exact Nat.le_of_ble_eq_true rfl, by rw [hRl]; exact Nat.le_of_ble_eq_true rfl⟩ (g_recv hKn hS hk2 (by decide) (by decide)) rfl (by rw [hr2]; rfl) (Nat.le_of_ble_eq_true rfl) dX4_bring_2 (fun H locs cells slots hS => ?_)
  refine g_istore_n (l1 := [(2, .inl z2.1), (0, .inr (.inr (some t))), (1, .inl v1)]) hx hb hl (by decide) rfl dX4_bring_5 (fun ls hl => ?_)
  refine lv_bipush (v := 65) hx hb dX4_bring_6 (by decide) ?_
  refine lv_bipush (v := 6) hx hb dX4_bring_8 (by decide) ?_
  refine g_aload_n hx hb hl 1 rfl dX4_bring_10 ?_
  obtain ⟨b11, hb11, h⟩ := g_bnd h
  obtain ⟨hr11, hk11⟩ := g_chk hb11
  obtain ⟨z11, h11, h⟩ := g_bnd h
  refine g_callV (n := 0) (b := b11) (av := []) (rs := [.inl 6, .inl 65]) hx hb hml hown hts hKn hRc hRs hS hl (sX4_words l E D h11) (lw_V q2264 q2266 qs81 q135 q2267) ⟨rfl, by decide, by decide, by decide +kernel⟩ ⟨by rw [hRf]; exact Nat.le_of_ble_eq_true rfl, by rw [hRl]; exact Nat.le_of_ble_eq_true rfl⟩ (g_recv hKn hS hk11 (by decide) (by decide)) rfl (by rw [hr11]; rfl) (Nat.le_of_ble_eq_true rfl) dX4_bring_11 (fun H locs cells slots hS => ?_)
  refine lv_imul hx hb dX4_bring_14 ?_
  refine lv_iadd hx hb dX4_bring_15 ?_
  refine g_istore_n (l1 := [(3, .inl (65 + (6 * z11.1))), (2, .inl z2.1), (0, .inr (.inr (some t))), (1, .inl v1)]) hx hb hl (by decide) rfl dX4_bring_16 (fun ls hl => ?_)
  refine lv_iconst (v := 0) hx hb dX4_bring_17 (by decide) ?_
  refine g_istore (l1 := [(4, .inl 0), (3, .inl (65 + (6 * z11.1))), (2, .inl z2.1), (0, .inr (.inr (some t))), (1, .inl v1)]) hx hb hl (by decide) rfl dX4_bring_18 (fun ls hl => ?_)
  exact sX4_bring_b20 C gFU _ _ _ _ _ _ _ h _ _ _ _ _ hS (gls_sub hl [3, 4, 2, 1, 0] rfl)
/-- SendHallModel.chose(I)I -/
def fX4_chose_b31 (E : g_E) (t : Nat) (G : g_G) : Option (Int32 × g_G) :=
  (gchk G 4 (some t)).bind fun b33 =>
  (fX4_fail E b33 1 G).bind fun z33 =>
  some (z33.1, z33.2)
def fX4_chose_b37 (E : g_E) (t : Nat) (v1 : Int32) (G : g_G) : Option (Int32 × g_G) :=
  if ¬ v1 = (-1 : Int32) then (
    (grR G 4 4 (some t) 69).bind fun x50 =>
    (gaI G 100 x50 v1).bind fun x54 =>
    some (x54, G))
  else (
    (grI G 4 4 (some t) 68).bind fun x43 =>
    some (x43, G))
def fX4_chose (E : g_E) (t : Nat) (v1 : Int32) (G : g_G) : Option (Int32 × g_G) :=
  (gpI E G 4 4 (some t) 2 0).bind fun G2 =>
  (gchk G2 4 (some t)).bind fun b6 =>
  (fX4_hasPlay E b6 G2).bind fun z6 =>
  if z6.1 = 0 then (
    fX4_chose_b31 E t z6.2)
  else (
    if v1 = (-1 : Int32) then (
      fX4_chose_b37 E t v1 z6.2)
    else (
      (grI z6.2 4 4 (some t) 68).bind fun x20 =>
      (fX4_isIn E v1 0 (x20 - 1) z6.2).bind fun z25 =>
      if ¬ z25.1 = 0 then (
        fX4_chose_b37 E t v1 z25.2)
      else (
        fX4_chose_b31 E t z25.2)))
theorem sX4_chose_b31 {p : Program} {l : Launch} {e : Env} {R : Room} {s : State} {m : MethodId} {args : Array Value} {below : List Frame} {meth : Method} {c : Code} {E : g_E} {D : g_D} (C : gC p R s m args meth c cX4_chose 2 RX4 "chose" (some .int) 2 86 E D) : ∀ (t : Nat) (G : g_G) (q : Int32 × g_G), fX4_chose_b31 E t G = some q → ∀ (H : Heap) (locs : List Loc) (cells slots : Nat) (ls : Array Slot), gSt E D G H locs → gls ls 2 [(0, .inr (.inr (some t)))] → gT p l e R s m args below meth c E D H locs cells slots (some (.int q.1)) q.2 (F0 m 31 ls []) := by
  obtain ⟨hx, hb, hml, hown, hts, hKn, hRc, hRs, hc1, hc2, hRf, hRl, hr, hlk, hnm⟩ := id C
  intro t G q h H locs cells slots ls hS hl
  unfold fX4_chose_b31 at h
  refine g_aload_n hx hb hl 0 rfl dX4_chose_31 ?_
  refine lv_iconst (v := 1) hx hb dX4_chose_32 (by decide) ?_
  obtain ⟨b33, hb33, h⟩ := g_bnd h
  obtain ⟨hr33, hk33⟩ := g_chk hb33
  obtain ⟨z33, h33, h⟩ := g_bnd h
  refine g_callV (n := 1) (b := b33) (av := [.inl 1]) (rs := []) hx hb hml hown hts hKn hRc hRs hS hl (sX4_fail l E D h33) (lw_V q2088 q2090 qs48 q135 q2091) ⟨rfl, by decide, by decide, by decide +kernel⟩ ⟨by rw [hRf]; exact Nat.le_of_ble_eq_true rfl, by rw [hRl]; exact Nat.le_of_ble_eq_true rfl⟩ (g_recv hKn hS hk33 (by decide) (by decide)) rfl (by rw [hr33]; rfl) (Nat.le_of_ble_eq_true rfl) dX4_chose_33 (fun H locs cells slots hS => ?_)
  exact g_iretG hx hb hr hlk hKn hRc hRs hS h dX4_chose_36
theorem sX4_chose_b37 {p : Program} {l : Launch} {e : Env} {R : Room} {s : State} {m : MethodId} {args : Array Value} {below : List Frame} {meth : Method} {c : Code} {E : g_E} {D : g_D} (C : gC p R s m args meth c cX4_chose 2 RX4 "chose" (some .int) 2 86 E D) : ∀ (t : Nat) (v1 : Int32) (G : g_G) (q : Int32 × g_G), fX4_chose_b37 E t v1 G = some q → ∀ (H : Heap) (locs : List Loc) (cells slots : Nat) (ls : Array Slot), gSt E D G H locs → gls ls 2 [(0, .inr (.inr (some t))), (1, .inl v1)] → gT p l e R s m args below meth c E D H locs cells slots (some (.int q.1)) q.2 (F0 m 37 ls []) := by
  obtain ⟨hx, hb, hml, hown, hts, hKn, hRc, hRs, hc1, hc2, hRf, hRl, hr, hlk, hnm⟩ := id C
  intro t v1 G q h H locs cells slots ls hS hl
  unfold fX4_chose_b37 at h
  refine g_iload_n hx hb hl 1 rfl dX4_chose_37 ?_
  refine lv_iconst (v := (-1)) hx hb dX4_chose_38 (by decide) ?_
  refine lv_icmp_ne (tgt := 49) hx hb dX4_chose_39 (by decide) (fun c_39 => ?_) (fun c_39 => ?_)
  · have h := g_ift c_39 h
    refine g_aload_n hx hb hl 0 rfl dX4_chose_49 ?_
    refine g_rdR hx hb hown hts hKn hS h fd_4_4_69 rfl (Or.inl (hts _ q1934)) (fun _ z => z) dX4_chose_50 (fun x50 h => ?_)
    refine g_iload_n hx hb hl 1 rfl dX4_chose_53 ?_
    refine g_ialoadG hx hb hKn hS h dX4_chose_54 (fun x54 h => ?_)
    exact g_iretG hx hb hr hlk hKn hRc hRs hS h dX4_chose_55
  · have h := g_iff (fun z => z c_39) h
    refine g_aload_n hx hb hl 0 rfl dX4_chose_42 ?_
    refine g_rdI hx hb hown hts hKn hS h fd_4_4_68 rfl (Or.inl (hts _ q1933)) (fun _ z => z) dX4_chose_43 (fun x43 h => ?_)
    refine lv_goto (tgt := 55) hx hb dX4_chose_46 (by decide) ?_
    exact g_iretG hx hb hr hlk hKn hRc hRs hS h dX4_chose_55
theorem sX4_chose (l : Launch) (E : g_E) (D : g_D) {t : Nat} {v1 : Int32} {G : g_G} {q : Int32 × g_G} (h : fX4_chose E t v1 G = some q) : gMet l E D yX4_chose (ws_ yX4_chose cX4_chose 2 (some .int)) 2 86 [.inr (.inr (some t)), .inl v1] G (some (.int q.1)) q.2 := by
  refine gMet.of (by decide +kernel) (Nat.le_of_ble_eq_true rfl) ?_
  intro p e R s m args below meth c C hS ls hl
  have C : gC p R s m args meth c cX4_chose 2 RX4 "chose" (some .int) 2 86 E D := C
  obtain ⟨hx, hb, hml, hown, hts, hKn, hRc, hRs, hc1, hc2, hRf, hRl, hr, hlk, hnm⟩ := id C
  have hl : gls ls 2 [(0, .inr (.inr (some t))), (1, .inl v1)] := hl
  generalize s.heap = H at hS ⊢
  unfold fX4_chose at h
  refine g_aload_n hx hb hl 0 rfl dX4_chose_0 ?_
  refine lv_iconst (v := 0) hx hb dX4_chose_1 (by decide) ?_
  refine g_ptI hx hb hown hts hKn hS h fd_4_4_2 (Or.inl (hts _ q1867)) (fun _ z => z) (fun z => nomatch z) dX4_chose_2 (fun G2 h H locs hS => ?_)
  refine g_aload_n hx hb hl 0 rfl dX4_chose_5 ?_
  obtain ⟨b6, hb6, h⟩ := g_bnd h
  obtain ⟨hr6, hk6⟩ := g_chk hb6
  obtain ⟨z6, h6, h⟩ := g_bnd h
  refine g_callV (n := 0) (b := b6) (av := []) (rs := []) hx hb hml hown hts hKn hRc hRs hS hl (sX4_hasPlay l E D h6) (lw_V q2428 q2430 qs111 q135 q2431) ⟨rfl, by decide, by decide, by decide +kernel⟩ ⟨by rw [hRf]; exact Nat.le_of_ble_eq_true rfl, by rw [hRl]; exact Nat.le_of_ble_eq_true rfl⟩ (g_recv hKn hS hk6 (by decide) (by decide)) rfl (by rw [hr6]; rfl) (Nat.le_of_ble_eq_true rfl) dX4_chose_6 (fun H locs cells slots hS => ?_)
  refine lv_if_eq (tgt := 31) hx hb dX4_chose_9 (by decide) (fun c_9 => ?_) (fun c_9 => ?_)
  · have h := g_ift c_9 h
    exact sX4_chose_b31 C _ _ _ h _ _ _ _ _ hS (gls_sub hl [0] rfl)
  · have h := g_iff c_9 h
    refine g_iload_n hx hb hl 1 rfl dX4_chose_12 ?_
    refine lv_iconst (v := (-1)) hx hb dX4_chose_13 (by decide) ?_
    refine lv_icmp_eq (tgt := 37) hx hb dX4_chose_14 (by decide) (fun c_14 => ?_) (fun c_14 => ?_)
    · have h := g_ift c_14 h
      exact sX4_chose_b37 C _ _ _ _ h _ _ _ _ _ hS (gls_sub hl [0, 1] rfl)
    · have h := g_iff c_14 h
      refine g_iload_n hx hb hl 1 rfl dX4_chose_17 ?_
      refine lv_iconst (v := 0) hx hb dX4_chose_18 (by decide) ?_
      refine g_aload_n hx hb hl 0 rfl dX4_chose_19 ?_
      refine g_rdI hx hb hown hts hKn hS h fd_4_4_68 rfl (Or.inl (hts _ q1933)) (fun _ z => z) dX4_chose_20 (fun x20 h => ?_)
      refine lv_iconst (v := 1) hx hb dX4_chose_23 (by decide) ?_
      refine lv_isub hx hb dX4_chose_24 ?_
      obtain ⟨z25, h25, h⟩ := g_bnd h
      refine g_callS (n := 3) (av := [.inl v1, .inl 0, .inl (x20 - 1)]) (rs := []) hx hb hml hown hts hKn hRc hRs hS hl (sX4_isIn l E D h25) (lw_S q2180 q2181 q135 q2182) ⟨by decide, by decide, by decide +kernel⟩ ⟨by rw [hRf]; exact Nat.le_of_ble_eq_true rfl, by rw [hRl]; exact Nat.le_of_ble_eq_true rfl⟩ rfl rfl (Nat.le_of_ble_eq_true rfl) dX4_chose_25 (fun H locs cells slots hS => ?_)
      refine lv_if_ne (tgt := 37) hx hb dX4_chose_28 (by decide) (fun c_28 => ?_) (fun c_28 => ?_)
      · have h := g_ift c_28 h
        exact sX4_chose_b37 C _ _ _ _ h _ _ _ _ _ hS (gls_sub hl [0, 1] rfl)
      · have h := g_iff (fun z => z c_28) h
        exact sX4_chose_b31 C _ _ _ h _ _ _ _ _ hS (gls_sub hl [0] rfl)
/-- SendHallModel.count(I)I -/
def fX4_count (E : g_E) (t : Nat) (v1 : Int32) (G : g_G) : Option (Int32 × g_G) :=
  (gpI E G 4 4 (some t) 2 0).bind fun G2 =>
  if v1 = 0 then (
    (grR G2 4 4 (some t) 22).bind fun x49 =>
    (gaI G2 100 x49 0).bind fun x53 =>
    some (x53, G2))
  else
  if v1 = 1 then (
    (gchk G2 4 (some t)).bind fun b56 =>
    (fX4_anySteps E b56 G2).bind fun z56 =>
    some (z56.1, z56.2))
  else
  if v1 = 2 then (
    (grI G2 4 4 (some t) 3).bind fun x61 =>
    some (x61, G2))
  else
  if v1 = 3 then (
    (grI G2 4 4 (some t) 4).bind fun x66 =>
    some (x66, G2))
  else
  if v1 = 4 then (
    (grI G2 4 4 (some t) 5).bind fun x71 =>
    some (x71, G2))
  else
  if v1 = 5 then (
    (grI G2 4 4 (some t) 6).bind fun x76 =>
    some (x76, G2))
  else
  if v1 = 6 then (
    (grI G2 4 4 (some t) 10).bind fun x81 =>
    some (x81, G2))
  else
  (
    (gchk G2 4 (some t)).bind fun b87 =>
    (fX4_fail E b87 1 G2).bind fun z87 =>
    some (z87.1, z87.2))
theorem sX4_count (l : Launch) (E : g_E) (D : g_D) {t : Nat} {v1 : Int32} {G : g_G} {q : Int32 × g_G} (h : fX4_count E t v1 G = some q) : gMet l E D yX4_count (ws_ yX4_count cX4_count 2 (some .int)) 2 86 [.inr (.inr (some t)), .inl v1] G (some (.int q.1)) q.2 := by
  refine gMet.of (by decide +kernel) (Nat.le_of_ble_eq_true rfl) ?_
  intro p e R s m args below meth c C hS ls hl
  have C : gC p R s m args meth c cX4_count 2 RX4 "count" (some .int) 2 86 E D := C
  obtain ⟨hx, hb, hml, hown, hts, hKn, hRc, hRs, hc1, hc2, hRf, hRl, hr, hlk, hnm⟩ := id C
  have hl : gls ls 2 [(0, .inr (.inr (some t))), (1, .inl v1)] := hl
  generalize s.heap = H at hS ⊢
  unfold fX4_count at h
  refine g_aload_n hx hb hl 0 rfl dX4_count_0 ?_
  refine lv_iconst (v := 0) hx hb dX4_count_1 (by decide) ?_
  refine g_ptI hx hb hown hts hKn hS h fd_4_4_2 (Or.inl (hts _ q1867)) (fun _ z => z) (fun z => nomatch z) dX4_count_2 (fun G2 h H locs hS => ?_)
  refine g_iload_n hx hb hl 1 rfl dX4_count_5 ?_
  by_cases w6_0 : v1 = 0
  · refine lv_tableIn (tgt := 48) (off := 42) hx hb dX4_count_6 (by rw [w6_0]; decide) (by rw [w6_0]; decide) (by rw [w6_0]; decide) (by decide) ?_
    have h := g_ift w6_0 h
    refine g_aload_n hx hb hl 0 rfl dX4_count_48 ?_
    refine g_rdR hx hb hown hts hKn hS h fd_4_4_22 rfl (Or.inl (hts _ q1887)) (fun _ z => z) dX4_count_49 (fun x49 h => ?_)
    refine lv_iconst (v := 0) hx hb dX4_count_52 (by decide) ?_
    refine g_ialoadG hx hb hKn hS h dX4_count_53 (fun x53 h => ?_)
    exact g_iretG hx hb hr hlk hKn hRc hRs hS h dX4_count_54
  have h := g_iff w6_0 h
  by_cases w6_1 : v1 = 1
  · refine lv_tableIn (tgt := 55) (off := 49) hx hb dX4_count_6 (by rw [w6_1]; decide) (by rw [w6_1]; decide) (by rw [w6_1]; decide) (by decide) ?_
    have h := g_ift w6_1 h
    refine g_aload_n hx hb hl 0 rfl dX4_count_55 ?_
    obtain ⟨b56, hb56, h⟩ := g_bnd h
    obtain ⟨hr56, hk56⟩ := g_chk hb56
    obtain ⟨z56, h56, h⟩ := g_bnd h
    refine g_callV (n := 0) (b := b56) (av := []) (rs := []) hx hb hml hown hts hKn hRc hRs hS hl (sX4_anySteps l E D h56) (lw_V q2201 q2203 qs68 q135 q2204) ⟨rfl, by decide, by decide, by decide +kernel⟩ ⟨by rw [hRf]; exact Nat.le_of_ble_eq_true rfl, by rw [hRl]; exact Nat.le_of_ble_eq_true rfl⟩ (g_recv hKn hS hk56 (by decide) (by decide)) rfl (by rw [hr56]; rfl) (Nat.le_of_ble_eq_true rfl) dX4_count_56 (fun H locs cells slots hS => ?_)
    exact g_iretG hx hb hr hlk hKn hRc hRs hS h dX4_count_59
  have h := g_iff w6_1 h
  by_cases w6_2 : v1 = 2
  · refine lv_tableIn (tgt := 60) (off := 54) hx hb dX4_count_6 (by rw [w6_2]; decide) (by rw [w6_2]; decide) (by rw [w6_2]; decide) (by decide) ?_
    have h := g_ift w6_2 h
    refine g_aload_n hx hb hl 0 rfl dX4_count_60 ?_
    refine g_rdI hx hb hown hts hKn hS h fd_4_4_3 rfl (Or.inl (hts _ q1868)) (fun _ z => z) dX4_count_61 (fun x61 h => ?_)
    exact g_iretG hx hb hr hlk hKn hRc hRs hS h dX4_count_64
  have h := g_iff w6_2 h
  by_cases w6_3 : v1 = 3
  · refine lv_tableIn (tgt := 65) (off := 59) hx hb dX4_count_6 (by rw [w6_3]; decide) (by rw [w6_3]; decide) (by rw [w6_3]; decide) (by decide) ?_
    have h := g_ift w6_3 h
    refine g_aload_n hx hb hl 0 rfl dX4_count_65 ?_
    refine g_rdI hx hb hown hts hKn hS h fd_4_4_4 rfl (Or.inl (hts _ q1869)) (fun _ z => z) dX4_count_66 (fun x66 h => ?_)
    exact g_iretG hx hb hr hlk hKn hRc hRs hS h dX4_count_69
  have h := g_iff w6_3 h
  by_cases w6_4 : v1 = 4
  · refine lv_tableIn (tgt := 70) (off := 64) hx hb dX4_count_6 (by rw [w6_4]; decide) (by rw [w6_4]; decide) (by rw [w6_4]; decide) (by decide) ?_
    have h := g_ift w6_4 h
    refine g_aload_n hx hb hl 0 rfl dX4_count_70 ?_
    refine g_rdI hx hb hown hts hKn hS h fd_4_4_5 rfl (Or.inl (hts _ q1870)) (fun _ z => z) dX4_count_71 (fun x71 h => ?_)
    exact g_iretG hx hb hr hlk hKn hRc hRs hS h dX4_count_74
  have h := g_iff w6_4 h
  by_cases w6_5 : v1 = 5
  · refine lv_tableIn (tgt := 75) (off := 69) hx hb dX4_count_6 (by rw [w6_5]; decide) (by rw [w6_5]; decide) (by rw [w6_5]; decide) (by decide) ?_
    have h := g_ift w6_5 h
    refine g_aload_n hx hb hl 0 rfl dX4_count_75 ?_
    refine g_rdI hx hb hown hts hKn hS h fd_4_4_6 rfl (Or.inl (hts _ q1871)) (fun _ z => z) dX4_count_76 (fun x76 h => ?_)
    exact g_iretG hx hb hr hlk hKn hRc hRs hS h dX4_count_79
  have h := g_iff w6_5 h
  by_cases w6_6 : v1 = 6
  · refine lv_tableIn (tgt := 80) (off := 74) hx hb dX4_count_6 (by rw [w6_6]; decide) (by rw [w6_6]; decide) (by rw [w6_6]; decide) (by decide) ?_
    have h := g_ift w6_6 h
    refine g_aload_n hx hb hl 0 rfl dX4_count_80 ?_
    refine g_rdI hx hb hown hts hKn hS h fd_4_4_10 rfl (Or.inl (hts _ q1875)) (fun _ z => z) dX4_count_81 (fun x81 h => ?_)
    exact g_iretG hx hb hr hlk hKn hRc hRs hS h dX4_count_84
  have h := g_iff w6_6 h
  refine g_tableD (tgt := 85) hx hb dX4_count_6 (by decide) [0, 1, 2, 3, 4, 5, 6] (by decide) (fun k hk => ?_) ?_
  · simp only [List.mem_cons, List.not_mem_nil, or_false] at hk
    rcases hk with rfl | rfl | rfl | rfl | rfl | rfl | rfl
    · exact w6_0
    · exact w6_1
    · exact w6_2
    · exact w6_3
    · exact w6_4
    · exact w6_5
    · exact w6_6
  refine g_aload_n hx hb hl 0 rfl dX4_count_85 ?_
  refine lv_iconst (v := 1) hx hb dX4_count_86 (by decide) ?_
  obtain ⟨b87, hb87, h⟩ := g_bnd h
  obtain ⟨hr87, hk87⟩ := g_chk hb87
  obtain ⟨z87, h87, h⟩ := g_bnd h
  refine g_callV (n := 1) (b := b87) (av := [.inl 1]) (rs := []) hx hb hml hown hts hKn hRc hRs hS hl (sX4_fail l E D h87) (lw_V q2088 q2090 qs48 q135 q2091) ⟨rfl, by decide, by decide, by decide +kernel⟩ ⟨by rw [hRf]; exact Nat.le_of_ble_eq_true rfl, by rw [hRl]; exact Nat.le_of_ble_eq_true rfl⟩ (g_recv hKn hS hk87 (by decide) (by decide)) rfl (by rw [hr87]; rfl) (Nat.le_of_ble_eq_true rfl) dX4_count_87 (fun H locs cells slots hS => ?_)
  exact g_iretG hx hb hr hlk hKn hRc hRs hS h dX4_count_90
/-- SendHallModel.hasOther(I)Z -/
def fX4_hasOther (E : g_E) (t : Nat) (v1 : Int32) (G : g_G) : Option (Int32 × g_G) :=
  (gchk G 4 (some t)).bind fun b3 =>
  (fX4_asked E b3 v1 0 G).bind fun z3 =>
  (grI z3.2 4 4 (some t) 3).bind fun x10 =>
  (fX4_isIn E z3.1 0 (x10 - 1) z3.2).bind fun z15 =>
  if z15.1 = 0 then (
    if (0 : Int32) = 0 ∨ (0 : Int32) = 1 then some (0, z15.2) else none)
  else (
    if z3.1 = v1 then (
      if (0 : Int32) = 0 ∨ (0 : Int32) = 1 then some (0, z15.2) else none)
    else (
      if (1 : Int32) = 0 ∨ (1 : Int32) = 1 then some (1, z15.2) else none))
theorem sX4_hasOther (l : Launch) (E : g_E) (D : g_D) {t : Nat} {v1 : Int32} {G : g_G} {q : Int32 × g_G} (h : fX4_hasOther E t v1 G = some q) : gMet l E D yX4_hasOther (ws_ yX4_hasOther cX4_hasOther 3 (some .boolean)) 4 134 [.inr (.inr (some t)), .inl v1] G (some (.int q.1)) q.2 := by
  refine gMet.of (by decide +kernel) (Nat.le_of_ble_eq_true rfl) ?_
  intro p e R s m args below meth c C hS ls hl
  have C : gC p R s m args meth c cX4_hasOther 3 RX4 "hasOther" (some .boolean) 4 134 E D := C
  obtain ⟨hx, hb, hml, hown, hts, hKn, hRc, hRs, hc1, hc2, hRf, hRl, hr, hlk, hnm⟩ := id C
  have hl : gls ls 3 [(0, .inr (.inr (some t))), (1, .inl v1)] := hl
  generalize s.heap = H at hS ⊢
  unfold fX4_hasOther at h
  refine g_aload_n hx hb hl 0 rfl dX4_hasOther_0 ?_
  refine g_iload_n hx hb hl 1 rfl dX4_hasOther_1 ?_
  refine lv_iconst (v := 0) hx hb dX4_hasOther_2 (by decide) ?_
  obtain ⟨b3, hb3, h⟩ := g_bnd h
  obtain ⟨hr3, hk3⟩ := g_chk hb3
  obtain ⟨z3, h3, h⟩ := g_bnd h
  refine g_callV (n := 2) (b := b3) (av := [.inl v1, .inl 0]) (rs := []) hx hb hml hown hts hKn hRc hRs hS hl (sX4_asked l E D h3) (lw_V q2241 q2243 qs76 q135 q2244) ⟨rfl, by decide, by decide, by decide +kernel⟩ ⟨by rw [hRf]; exact Nat.le_of_ble_eq_true rfl, by rw [hRl]; exact Nat.le_of_ble_eq_true rfl⟩ (g_recv hKn hS hk3 (by decide) (by decide)) rfl (by rw [hr3]; rfl) (Nat.le_of_ble_eq_true rfl) dX4_hasOther_3 (fun H locs cells slots hS => ?_)
  refine g_istore_n (l1 := [(2, .inl z3.1), (0, .inr (.inr (some t))), (1, .inl v1)]) hx hb hl (by decide) rfl dX4_hasOther_6 (fun ls hl => ?_)
  refine g_iload_n hx hb hl 0 rfl dX4_hasOther_7 ?_
  refine lv_iconst (v := 0) hx hb dX4_hasOther_8 (by decide) ?_
  refine g_aload_n hx hb hl 1 rfl dX4_hasOther_9 ?_
  refine g_rdI hx hb hown hts hKn hS h fd_4_4_3 rfl (Or.inl (hts _ q1868)) (fun _ z => z) dX4_hasOther_10 (fun x10 h => ?_)
  refine lv_iconst (v := 1) hx hb dX4_hasOther_13 (by decide) ?_
  refine lv_isub hx hb dX4_hasOther_14 ?_
  obtain ⟨z15, h15, h⟩ := g_bnd h
  refine g_callS (n := 3) (av := [.inl z3.1, .inl 0, .inl (x10 - 1)]) (rs := []) hx hb hml hown hts hKn hRc hRs hS hl (sX4_isIn l E D h15) (lw_S q2180 q2181 q135 q2182) ⟨by decide, by decide, by decide +kernel⟩ ⟨by rw [hRf]; exact Nat.le_of_ble_eq_true rfl, by rw [hRl]; exact Nat.le_of_ble_eq_true rfl⟩ rfl rfl (Nat.le_of_ble_eq_true rfl) dX4_hasOther_15 (fun H locs cells slots hS => ?_)
  refine lv_if_eq (tgt := 30) hx hb dX4_hasOther_18 (by decide) (fun c_18 => ?_) (fun c_18 => ?_)
  · have h := g_ift c_18 h
    refine lv_iconst (v := 0) hx hb dX4_hasOther_30 (by decide) ?_
    exact g_zretG hx hb hr hlk hKn hRc hRs hS h dX4_hasOther_31
  · have h := g_iff c_18 h
    refine g_iload_n hx hb hl 0 rfl dX4_hasOther_21 ?_
    refine g_iload_n hx hb hl 2 rfl dX4_hasOther_22 ?_
    refine lv_icmp_eq (tgt := 30) hx hb dX4_hasOther_23 (by decide) (fun c_23 => ?_) (fun c_23 => ?_)
    · have h := g_ift c_23 h
      refine lv_iconst (v := 0) hx hb dX4_hasOther_30 (by decide) ?_
      exact g_zretG hx hb hr hlk hKn hRc hRs hS h dX4_hasOther_31
    · have h := g_iff c_23 h
      refine lv_iconst (v := 1) hx hb dX4_hasOther_26 (by decide) ?_
      refine lv_goto (tgt := 31) hx hb dX4_hasOther_27 (by decide) ?_
      exact g_zretG hx hb hr hlk hKn hRc hRs hS h dX4_hasOther_31
