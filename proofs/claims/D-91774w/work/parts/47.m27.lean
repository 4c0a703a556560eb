set_option maxRecDepth 100000
/-- SendHallModel.move(II)V -/
def fX4_move (E : g_E) (t : Nat) (v1 : Int32) (v2 : Int32) (G : g_G) : Option (g_G) :=
  (gchk G 4 (some t)).bind fun b3 =>
  (fX4_own E b3 v1 0 G).bind fun z3 =>
  (gpI E z3.2 4 4 (some t) 40 (-1)).bind fun G9 =>
  (grR G9 4 4 (some t) 24).bind fun x13 =>
  (gaI G9 100 x13 z3.1).bind fun x17 =>
  if x17 = 0 then (
    (gchk G9 4 (some t)).bind fun b85 =>
    (fX4_asked E b85 v1 0 G9).bind fun z85 =>
    (gchk z85.2 4 (some t)).bind fun b88 =>
    (fX4_sent E b88 v1 z85.1 z85.2).bind fun z88 =>
    (grI z88.2 4 4 (some t) 4).bind fun x92 =>
    if x92 ≤ z88.1 then (
      (gchk z88.2 4 (some t)).bind fun b124 =>
      (fX4_handOver E b124 v1 z88.2).bind fun z124 =>
      some z124)
    else (
      (gchk z88.2 4 (some t)).bind fun b101 =>
      (fX4_lay E b101 v1 0 z88.2).bind fun z101 =>
      (grR z101 4 4 (some t) 36).bind fun x105 =>
      (gaI z101 100 x105 v1).bind fun x110 =>
      (gsaI E z101 x105 v1 (x110 + 1)).bind fun G113 =>
      (gchk G113 4 (some t)).bind fun b116 =>
      (fX4_goOn E b116 v1 G113).bind fun z116 =>
      some z116))
  else
  if x17 = 1 then (
    (gchk G9 4 (some t)).bind fun b132 =>
    (fX4_handOver E b132 v1 G9).bind fun z132 =>
    some z132)
  else
  if x17 = 2 then (
    (gchk G9 4 (some t)).bind fun b59 =>
    (fX4_lay E b59 v1 1 G9).bind fun z59 =>
    (grR z59 4 4 (some t) 36).bind fun x63 =>
    (gaI z59 100 x63 v1).bind fun x68 =>
    (gsaI E z59 x63 v1 (x68 + 1)).bind fun G71 =>
    (gchk G71 4 (some t)).bind fun b74 =>
    (fX4_goOn E b74 v1 G71).bind fun z74 =>
    some z74)
  else
  if x17 = 3 then (
    (gchk G9 4 (some t)).bind fun b141 =>
    (fX4_asked E b141 v1 0 G9).bind fun z141 =>
    (gchk z141.2 4 (some t)).bind fun b153 =>
    (fX4_asked E b153 v1 1 z141.2).bind fun z153 =>
    (gchk z153.2 4 (some t)).bind fun b156 =>
    (fX4_lying E b156 z141.1 v1 z153.1 z153.2).bind fun z156 =>
    (gchk z156.2 4 (some t)).bind fun b167 =>
    (fX4_take E b167 v1 z141.1 z156.1 z156.2).bind fun z167 =>
    some z167)
  else
  if x17 = 4 then (
    (gchk G9 4 (some t)).bind fun b179 =>
    (fX4_asked E b179 v1 1 G9).bind fun z179 =>
    (gchk z179.2 4 (some t)).bind fun b182 =>
    (fX4_lying E b182 v2 v1 z179.1 z179.2).bind fun z182 =>
    (gchk z182.2 4 (some t)).bind fun b190 =>
    (fX4_noteAny E b190 v1 v2 z182.2).bind fun z190 =>
    (gchk z190 4 (some t)).bind fun b198 =>
    (fX4_take E b198 v1 v2 z182.1 z190).bind fun z198 =>
    some z198)
  else
  if x17 = 5 then (
    (grR G9 4 4 (some t) 38).bind fun x207 =>
    (gaI G9 100 x207 v1).bind fun x211 =>
    (gchk G9 4 (some t)).bind fun b212 =>
    (fX4_upTo E b212 v1 x211 G9).bind fun z212 =>
    (grR z212 4 4 (some t) 36).bind fun x216 =>
    (gaI z212 100 x216 v1).bind fun x221 =>
    (gsaI E z212 x216 v1 (x221 + 1)).bind fun G224 =>
    (gchk G224 4 (some t)).bind fun b227 =>
    (fX4_goOn E b227 v1 G224).bind fun z227 =>
    some z227)
  else
  (
    (grR G9 4 4 (some t) 24).bind fun x235 =>
    (gaI G9 100 x235 z3.1).bind fun x239 =>
    (gchk G9 4 (some t)).bind fun b240 =>
    (fX4_together E b240 x239 G9).bind fun z240 =>
    some z240)
theorem sX4_move (l : Launch) (E : g_E) (D : g_D) {t : Nat} {v1 : Int32} {v2 : Int32} {G : g_G} {q : g_G} (h : fX4_move E t v1 v2 G = some q) : gMet l E D yX4_move (ws_ yX4_move cX4_move 6 (none)) 9 257 [.inr (.inr (some t)), .inl v1, .inl v2] G none q := by
  refine gMet.of (by decide +kernel) (Nat.le_of_ble_eq_true rfl) ?_
  intro p e R s m args below meth c C hS ls hl
  have C : gC p R s m args meth c cX4_move 6 RX4 "move" (none) 9 257 E D := C
  obtain ⟨hx, hb, hml, hown, hts, hKn, hRc, hRs, hc1, hc2, hRf, hRl, hr, hlk, hnm⟩ := id C
  have hl : gls ls 6 [(0, .inr (.inr (some t))), (1, .inl v1), (2, .inl v2)] := hl
  generalize s.heap = H at hS ⊢
  unfold fX4_move at h
  refine g_aload_n hx hb hl 0 rfl dX4_move_0 ?_
  refine g_iload_n hx hb hl 1 rfl dX4_move_1 ?_
  refine lv_iconst (v := 0) hx hb dX4_move_2 (by decide) ?_
  obtain ⟨b3, hb3, h⟩ := g_bnd h
  obtain ⟨hr3, hk3⟩ := g_chk hb3
  obtain ⟨z3, h3, h⟩ := g_bnd h
  refine g_callV (n := 2) (b := b3) (av := [.inl v1, .inl 0]) (rs := []) hx hb hml hown hts hKn hRc hRs hS hl (sX4_own l E D h3) (lw_V q2245 q2247 qs77 q135 q2248) ⟨rfl, by decide, by decide, by decide +kernel⟩ ⟨by rw [hRf]; exact Nat.le_of_ble_eq_true rfl, by rw [hRl]; exact Nat.le_of_ble_eq_true rfl⟩ (g_recv hKn hS hk3 (by decide) (by decide)) rfl (by rw [hr3]; rfl) (Nat.le_of_ble_eq_true rfl) dX4_move_3 (fun H locs cells slots hS => ?_)
  refine g_istore_n (l1 := [(3, .inl z3.1), (0, .inr (.inr (some t))), (1, .inl v1), (2, .inl v2)]) hx hb hl (by decide) rfl dX4_move_6 (fun ls hl => ?_)
  refine g_aload_n hx hb hl 1 rfl dX4_move_7 ?_
  refine lv_iconst (v := (-1)) hx hb dX4_move_8 (by decide) ?_
  refine g_ptI hx hb hown hts hKn hS h fd_4_4_40 (Or.inl (hts _ q1905)) (fun _ z => z) (fun z => nomatch z) dX4_move_9 (fun G9 h H locs hS => ?_)
  refine g_aload_n hx hb hl 1 rfl dX4_move_12 ?_
  refine g_rdR hx hb hown hts hKn hS h fd_4_4_24 rfl (Or.inl (hts _ q1889)) (fun _ z => z) dX4_move_13 (fun x13 h => ?_)
  refine g_iload_n hx hb hl 0 rfl dX4_move_16 ?_
  refine g_ialoadG hx hb hKn hS h dX4_move_17 (fun x17 h => ?_)
  by_cases w18_0 : x17 = 0
  · refine lv_tableIn (tgt := 80) (off := 62) hx hb dX4_move_18 (by rw [w18_0]; decide) (by rw [w18_0]; decide) (by rw [w18_0]; decide) (by decide) ?_
    have h := g_ift w18_0 h
    refine g_aload_n hx hb hl 1 rfl dX4_move_80 ?_
    refine g_iload_n hx hb hl 2 rfl dX4_move_81 ?_
    refine g_aload_n hx hb hl 1 rfl dX4_move_82 ?_
    refine g_iload_n hx hb hl 2 rfl dX4_move_83 ?_
    refine lv_iconst (v := 0) hx hb dX4_move_84 (by decide) ?_
    obtain ⟨b85, hb85, h⟩ := g_bnd h
    obtain ⟨hr85, hk85⟩ := g_chk hb85
    obtain ⟨z85, h85, h⟩ := g_bnd h
    refine g_callV (n := 2) (b := b85) (av := [.inl v1, .inl 0]) (rs := [.inl v1, .inr (.inr (some t))]) hx hb hml hown hts hKn hRc hRs hS hl (sX4_asked l E D h85) (lw_V q2241 q2243 qs76 q135 q2244) ⟨rfl, by decide, by decide, by decide +kernel⟩ ⟨by rw [hRf]; exact Nat.le_of_ble_eq_true rfl, by rw [hRl]; exact Nat.le_of_ble_eq_true rfl⟩ (g_recv hKn hS hk85 (by decide) (by decide)) rfl (by rw [hr85]; rfl) (Nat.le_of_ble_eq_true rfl) dX4_move_85 (fun H locs cells slots hS => ?_)
    obtain ⟨b88, hb88, h⟩ := g_bnd h
    obtain ⟨hr88, hk88⟩ := g_chk hb88
    obtain ⟨z88, h88, h⟩ := g_bnd h
    refine g_callV (n := 2) (b := b88) (av := [.inl v1, .inl z85.1]) (rs := []) hx hb hml hown hts hKn hRc hRs hS hl (sX4_sent l E D h88) (lw_V q2288 q2290 qs87 q135 q2291) ⟨rfl, by decide, by decide, by decide +kernel⟩ ⟨by rw [hRf]; exact Nat.le_of_ble_eq_true rfl, by rw [hRl]; exact Nat.le_of_ble_eq_true rfl⟩ (g_recv hKn hS hk88 (by decide) (by decide)) rfl (by rw [hr88]; rfl) (Nat.le_of_ble_eq_true rfl) dX4_move_88 (fun H locs cells slots hS => ?_)
    refine g_aload_n hx hb hl 1 rfl dX4_move_91 ?_
    refine g_rdI hx hb hown hts hKn hS h fd_4_4_4 rfl (Or.inl (hts _ q1869)) (fun _ z => z) dX4_move_92 (fun x92 h => ?_)
    refine lv_icmp_ge (tgt := 122) hx hb dX4_move_95 (by decide) (fun c_95 => ?_) (fun c_95 => ?_)
    · have h := g_ift c_95 h
      refine g_aload_n hx hb hl 1 rfl dX4_move_122 ?_
      refine g_iload_n hx hb hl 2 rfl dX4_move_123 ?_
      obtain ⟨b124, hb124, h⟩ := g_bnd h
      obtain ⟨hr124, hk124⟩ := g_chk hb124
      obtain ⟨z124, h124, h⟩ := g_bnd h
      refine g_callV (n := 1) (b := b124) (av := [.inl v1]) (rs := []) hx hb hml hown hts hKn hRc hRs hS hl (sX4_handOver l E D h124) (lw_V q2328 q2330 qs96 q135 q2331) ⟨rfl, by decide, by decide, by decide +kernel⟩ ⟨by rw [hRf]; exact Nat.le_of_ble_eq_true rfl, by rw [hRl]; exact Nat.le_of_ble_eq_true rfl⟩ (g_recv hKn hS hk124 (by decide) (by decide)) rfl (by rw [hr124]; rfl) (Nat.le_of_ble_eq_true rfl) dX4_move_124 (fun H locs cells slots hS => ?_)
      refine lv_goto (tgt := 243) hx hb dX4_move_127 (by decide) ?_
      exact g_vretG hx hb hr hlk hKn hRc hRs hS h dX4_move_243
    · have h := g_iff c_95 h
      refine g_aload_n hx hb hl 1 rfl dX4_move_98 ?_
      refine g_iload_n hx hb hl 2 rfl dX4_move_99 ?_
      refine lv_iconst (v := 0) hx hb dX4_move_100 (by decide) ?_
      obtain ⟨b101, hb101, h⟩ := g_bnd h
      obtain ⟨hr101, hk101⟩ := g_chk hb101
      obtain ⟨z101, h101, h⟩ := g_bnd h
      refine g_callV (n := 2) (b := b101) (av := [.inl v1, .inl 0]) (rs := []) hx hb hml hown hts hKn hRc hRs hS hl (sX4_lay l E D h101) (lw_V q2315 q2317 qs93 q135 q2318) ⟨rfl, by decide, by decide, by decide +kernel⟩ ⟨by rw [hRf]; exact Nat.le_of_ble_eq_true rfl, by rw [hRl]; exact Nat.le_of_ble_eq_true rfl⟩ (g_recv hKn hS hk101 (by decide) (by decide)) rfl (by rw [hr101]; rfl) (Nat.le_of_ble_eq_true rfl) dX4_move_101 (fun H locs cells slots hS => ?_)
      refine g_aload_n hx hb hl 1 rfl dX4_move_104 ?_
      refine g_rdR hx hb hown hts hKn hS h fd_4_4_36 rfl (Or.inl (hts _ q1901)) (fun _ z => z) dX4_move_105 (fun x105 h => ?_)
      refine g_iload_n hx hb hl 2 rfl dX4_move_108 ?_
      refine lv_dup2_11 hx hb dX4_move_109 rfl (by first | exact va_rf_cat _ | rfl | exact g_catA _) ?_
      refine g_ialoadG hx hb hKn hS h dX4_move_110 (fun x110 h => ?_)
      refine lv_iconst (v := 1) hx hb dX4_move_111 (by decide) ?_
      refine lv_iadd hx hb dX4_move_112 ?_
      refine g_iastoreG hx hb hKn hS h dX4_move_113 (fun G113 h H locs hS => ?_)
      refine g_aload_n hx hb hl 1 rfl dX4_move_114 ?_
      refine g_iload_n hx hb hl 2 rfl dX4_move_115 ?_
      obtain ⟨b116, hb116, h⟩ := g_bnd h
      obtain ⟨hr116, hk116⟩ := g_chk hb116
      obtain ⟨z116, h116, h⟩ := g_bnd h
      refine g_callV (n := 1) (b := b116) (av := [.inl v1]) (rs := []) hx hb hml hown hts hKn hRc hRs hS hl (sX4_goOn l E D h116) (lw_V q2324 q2326 qs95 q135 q2327) ⟨rfl, by decide, by decide, by decide +kernel⟩ ⟨by rw [hRf]; exact Nat.le_of_ble_eq_true rfl, by rw [hRl]; exact Nat.le_of_ble_eq_true rfl⟩ (g_recv hKn hS hk116 (by decide) (by decide)) rfl (by rw [hr116]; rfl) (Nat.le_of_ble_eq_true rfl) dX4_move_116 (fun H locs cells slots hS => ?_)
      refine lv_goto (tgt := 243) hx hb dX4_move_119 (by decide) ?_
      exact g_vretG hx hb hr hlk hKn hRc hRs hS h dX4_move_243
  have h := g_iff w18_0 h
  by_cases w18_1 : x17 = 1
  · refine lv_tableIn (tgt := 130) (off := 112) hx hb dX4_move_18 (by rw [w18_1]; decide) (by rw [w18_1]; decide) (by rw [w18_1]; decide) (by decide) ?_
    have h := g_ift w18_1 h
    refine g_aload_n hx hb hl 1 rfl dX4_move_130 ?_
    refine g_iload_n hx hb hl 2 rfl dX4_move_131 ?_
    obtain ⟨b132, hb132, h⟩ := g_bnd h
    obtain ⟨hr132, hk132⟩ := g_chk hb132
    obtain ⟨z132, h132, h⟩ := g_bnd h
    refine g_callV (n := 1) (b := b132) (av := [.inl v1]) (rs := []) hx hb hml hown hts hKn hRc hRs hS hl (sX4_handOver l E D h132) (lw_V q2328 q2330 qs96 q135 q2331) ⟨rfl, by decide, by decide, by decide +kernel⟩ ⟨by rw [hRf]; exact Nat.le_of_ble_eq_true rfl, by rw [hRl]; exact Nat.le_of_ble_eq_true rfl⟩ (g_recv hKn hS hk132 (by decide) (by decide)) rfl (by rw [hr132]; rfl) (Nat.le_of_ble_eq_true rfl) dX4_move_132 (fun H locs cells slots hS => ?_)
    refine lv_goto (tgt := 243) hx hb dX4_move_135 (by decide) ?_
    exact g_vretG hx hb hr hlk hKn hRc hRs hS h dX4_move_243
  have h := g_iff w18_1 h
  by_cases w18_2 : x17 = 2
  · refine lv_tableIn (tgt := 56) (off := 38) hx hb dX4_move_18 (by rw [w18_2]; decide) (by rw [w18_2]; decide) (by rw [w18_2]; decide) (by decide) ?_
    have h := g_ift w18_2 h
    refine g_aload_n hx hb hl 1 rfl dX4_move_56 ?_
    refine g_iload_n hx hb hl 2 rfl dX4_move_57 ?_
    refine lv_iconst (v := 1) hx hb dX4_move_58 (by decide) ?_
    obtain ⟨b59, hb59, h⟩ := g_bnd h
    obtain ⟨hr59, hk59⟩ := g_chk hb59
    obtain ⟨z59, h59, h⟩ := g_bnd h
    refine g_callV (n := 2) (b := b59) (av := [.inl v1, .inl 1]) (rs := []) hx hb hml hown hts hKn hRc hRs hS hl (sX4_lay l E D h59) (lw_V q2315 q2317 qs93 q135 q2318) ⟨rfl, by decide, by decide, by decide +kernel⟩ ⟨by rw [hRf]; exact Nat.le_of_ble_eq_true rfl, by rw [hRl]; exact Nat.le_of_ble_eq_true rfl⟩ (g_recv hKn hS hk59 (by decide) (by decide)) rfl (by rw [hr59]; rfl) (Nat.le_of_ble_eq_true rfl) dX4_move_59 (fun H locs cells slots hS => ?_)
    refine g_aload_n hx hb hl 1 rfl dX4_move_62 ?_
    refine g_rdR hx hb hown hts hKn hS h fd_4_4_36 rfl (Or.inl (hts _ q1901)) (fun _ z => z) dX4_move_63 (fun x63 h => ?_)
    refine g_iload_n hx hb hl 2 rfl dX4_move_66 ?_
    refine lv_dup2_11 hx hb dX4_move_67 rfl (by first | exact va_rf_cat _ | rfl | exact g_catA _) ?_
    refine g_ialoadG hx hb hKn hS h dX4_move_68 (fun x68 h => ?_)
    refine lv_iconst (v := 1) hx hb dX4_move_69 (by decide) ?_
    refine lv_iadd hx hb dX4_move_70 ?_
    refine g_iastoreG hx hb hKn hS h dX4_move_71 (fun G71 h H locs hS => ?_)
    refine g_aload_n hx hb hl 1 rfl dX4_move_72 ?_
    refine g_iload_n hx hb hl 2 rfl dX4_move_73 ?_
    obtain ⟨b74, hb74, h⟩ := g_bnd h
    obtain ⟨hr74, hk74⟩ := g_chk hb74
    obtain ⟨z74, h74, h⟩ := g_bnd h
    refine g_callV (n := 1) (b := b74) (av := [.inl v1]) (rs := []) hx hb hml hown hts hKn hRc hRs hS hl (sX4_goOn l E D h74) (lw_V q2324 q2326 qs95 q135 q2327) ⟨rfl, by decide, by decide, by decide +kernel⟩ ⟨by rw [hRf]; exact Nat.le_of_ble_eq_true rfl, by rw [hRl]; exact Nat.le_of_ble_eq_true rfl⟩ (g_recv hKn hS hk74 (by decide) (by decide)) rfl (by rw [hr74]; rfl) (Nat.le_of_ble_eq_true rfl) dX4_move_74 (fun H locs cells slots hS => ?_)
    refine lv_goto (tgt := 243) hx hb dX4_move_77 (by decide) ?_
    exact g_vretG hx hb hr hlk hKn hRc hRs hS h dX4_move_243
  have h := g_iff w18_2 h
  by_cases w18_3 : x17 = 3
  · refine lv_tableIn (tgt := 138) (off := 120) hx hb dX4_move_18 (by rw [w18_3]; decide) (by rw [w18_3]; decide) (by rw [w18_3]; decide) (by decide) ?_
    have h := g_ift w18_3 h
    refine g_aload_n hx hb hl 1 rfl dX4_move_138 ?_
    refine g_iload_n hx hb hl 2 rfl dX4_move_139 ?_
    refine lv_iconst (v := 0) hx hb dX4_move_140 (by decide) ?_
    obtain ⟨b141, hb141, h⟩ := g_bnd h
    obtain ⟨hr141, hk141⟩ := g_chk hb141
    obtain ⟨z141, h141, h⟩ := g_bnd h
    refine g_callV (n := 2) (b := b141) (av := [.inl v1, .inl 0]) (rs := []) hx hb hml hown hts hKn hRc hRs hS hl (sX4_asked l E D h141) (lw_V q2241 q2243 qs76 q135 q2244) ⟨rfl, by decide, by decide, by decide +kernel⟩ ⟨by rw [hRf]; exact Nat.le_of_ble_eq_true rfl, by rw [hRl]; exact Nat.le_of_ble_eq_true rfl⟩ (g_recv hKn hS hk141 (by decide) (by decide)) rfl (by rw [hr141]; rfl) (Nat.le_of_ble_eq_true rfl) dX4_move_141 (fun H locs cells slots hS => ?_)
    refine g_istore (l1 := [(4, .inl z141.1), (3, .inl z3.1), (0, .inr (.inr (some t))), (1, .inl v1), (2, .inl v2)]) hx hb hl (by decide) rfl dX4_move_144 (fun ls hl => ?_)
    refine g_aload_n hx hb hl 2 rfl dX4_move_146 ?_
    refine g_iload hx hb hl 0 rfl dX4_move_147 ?_
    refine g_iload_n hx hb hl 3 rfl dX4_move_149 ?_
    refine g_aload_n hx hb hl 2 rfl dX4_move_150 ?_
    refine g_iload_n hx hb hl 3 rfl dX4_move_151 ?_
    refine lv_iconst (v := 1) hx hb dX4_move_152 (by decide) ?_
    obtain ⟨b153, hb153, h⟩ := g_bnd h
    obtain ⟨hr153, hk153⟩ := g_chk hb153
    obtain ⟨z153, h153, h⟩ := g_bnd h
    refine g_callV (n := 2) (b := b153) (av := [.inl v1, .inl 1]) (rs := [.inl v1, .inl z141.1, .inr (.inr (some t))]) hx hb hml hown hts hKn hRc hRs hS hl (sX4_asked l E D h153) (lw_V q2241 q2243 qs76 q135 q2244) ⟨rfl, by decide, by decide, by decide +kernel⟩ ⟨by rw [hRf]; exact Nat.le_of_ble_eq_true rfl, by rw [hRl]; exact Nat.le_of_ble_eq_true rfl⟩ (g_recv hKn hS hk153 (by decide) (by decide)) rfl (by rw [hr153]; rfl) (Nat.le_of_ble_eq_true rfl) dX4_move_153 (fun H locs cells slots hS => ?_)
    obtain ⟨b156, hb156, h⟩ := g_bnd h
    obtain ⟨hr156, hk156⟩ := g_chk hb156
    obtain ⟨z156, h156, h⟩ := g_bnd h
    refine g_callV (n := 3) (b := b156) (av := [.inl z141.1, .inl v1, .inl z153.1]) (rs := []) hx hb hml hown hts hKn hRc hRs hS hl (sX4_lying l E D h156) (lw_V q2299 q2301 qs89 q135 q2302) ⟨rfl, by decide, by decide, by decide +kernel⟩ ⟨by rw [hRf]; exact Nat.le_of_ble_eq_true rfl, by rw [hRl]; exact Nat.le_of_ble_eq_true rfl⟩ (g_recv hKn hS hk156 (by decide) (by decide)) rfl (by rw [hr156]; rfl) (Nat.le_of_ble_eq_true rfl) dX4_move_156 (fun H locs cells slots hS => ?_)
    refine g_istore (l1 := [(5, .inl z156.1), (4, .inl z141.1), (3, .inl z3.1), (0, .inr (.inr (some t))), (1, .inl v1), (2, .inl v2)]) hx hb hl (by decide) rfl dX4_move_159 (fun ls hl => ?_)
    refine g_aload_n hx hb hl 3 rfl dX4_move_161 ?_
    refine g_iload_n hx hb hl 4 rfl dX4_move_162 ?_
    refine g_iload hx hb hl 1 rfl dX4_move_163 ?_
    refine g_iload hx hb hl 0 rfl dX4_move_165 ?_
    obtain ⟨b167, hb167, h⟩ := g_bnd h
    obtain ⟨hr167, hk167⟩ := g_chk hb167
    obtain ⟨z167, h167, h⟩ := g_bnd h
    refine g_callV (n := 3) (b := b167) (av := [.inl v1, .inl z141.1, .inl z156.1]) (rs := []) hx hb hml hown hts hKn hRc hRs hS hl (sX4_take l E D h167) (lw_V q2345 q2347 qs100 q135 q2348) ⟨rfl, by decide, by decide, by decide +kernel⟩ ⟨by rw [hRf]; exact Nat.le_of_ble_eq_true rfl, by rw [hRl]; exact Nat.le_of_ble_eq_true rfl⟩ (g_recv hKn hS hk167 (by decide) (by decide)) rfl (by rw [hr167]; rfl) (Nat.le_of_ble_eq_true rfl) dX4_move_167 (fun H locs cells slots hS => ?_)
    refine lv_goto (tgt := 243) hx hb dX4_move_170 (by decide) ?_
    exact g_vretG hx hb hr hlk hKn hRc hRs hS h dX4_move_243
  have h := g_iff w18_3 h
  by_cases w18_4 : x17 = 4
  · refine lv_tableIn (tgt := 173) (off := 155) hx hb dX4_move_18 (by rw [w18_4]; decide) (by rw [w18_4]; decide) (by rw [w18_4]; decide) (by decide) ?_
    have h := g_ift w18_4 h
    refine g_aload_n hx hb hl 1 rfl dX4_move_173 ?_
    refine g_iload_n hx hb hl 3 rfl dX4_move_174 ?_
    refine g_iload_n hx hb hl 2 rfl dX4_move_175 ?_
    refine g_aload_n hx hb hl 1 rfl dX4_move_176 ?_
    refine g_iload_n hx hb hl 2 rfl dX4_move_177 ?_
    refine lv_iconst (v := 1) hx hb dX4_move_178 (by decide) ?_
    obtain ⟨b179, hb179, h⟩ := g_bnd h
    obtain ⟨hr179, hk179⟩ := g_chk hb179
    obtain ⟨z179, h179, h⟩ := g_bnd h
    refine g_callV (n := 2) (b := b179) (av := [.inl v1, .inl 1]) (rs := [.inl v1, .inl v2, .inr (.inr (some t))]) hx hb hml hown hts hKn hRc hRs hS hl (sX4_asked l E D h179) (lw_V q2241 q2243 qs76 q135 q2244) ⟨rfl, by decide, by decide, by decide +kernel⟩ ⟨by rw [hRf]; exact Nat.le_of_ble_eq_true rfl, by rw [hRl]; exact Nat.le_of_ble_eq_true rfl⟩ (g_recv hKn hS hk179 (by decide) (by decide)) rfl (by rw [hr179]; rfl) (Nat.le_of_ble_eq_true rfl) dX4_move_179 (fun H locs cells slots hS => ?_)
    obtain ⟨b182, hb182, h⟩ := g_bnd h
    obtain ⟨hr182, hk182⟩ := g_chk hb182
    obtain ⟨z182, h182, h⟩ := g_bnd h
    refine g_callV (n := 3) (b := b182) (av := [.inl v2, .inl v1, .inl z179.1]) (rs := []) hx hb hml hown hts hKn hRc hRs hS hl (sX4_lying l E D h182) (lw_V q2299 q2301 qs89 q135 q2302) ⟨rfl, by decide, by decide, by decide +kernel⟩ ⟨by rw [hRf]; exact Nat.le_of_ble_eq_true rfl, by rw [hRl]; exact Nat.le_of_ble_eq_true rfl⟩ (g_recv hKn hS hk182 (by decide) (by decide)) rfl (by rw [hr182]; rfl) (Nat.le_of_ble_eq_true rfl) dX4_move_182 (fun H locs cells slots hS => ?_)
    refine g_istore (l1 := [(4, .inl z182.1), (3, .inl z3.1), (0, .inr (.inr (some t))), (1, .inl v1), (2, .inl v2)]) hx hb hl (by decide) rfl dX4_move_185 (fun ls hl => ?_)
    refine g_aload_n hx hb hl 2 rfl dX4_move_187 ?_
    refine g_iload_n hx hb hl 3 rfl dX4_move_188 ?_
    refine g_iload_n hx hb hl 4 rfl dX4_move_189 ?_
    obtain ⟨b190, hb190, h⟩ := g_bnd h
    obtain ⟨hr190, hk190⟩ := g_chk hb190
    obtain ⟨z190, h190, h⟩ := g_bnd h
    refine g_callV (n := 2) (b := b190) (av := [.inl v1, .inl v2]) (rs := []) hx hb hml hown hts hKn hRc hRs hS hl (sX4_noteAny l E D h190) (lw_V q2337 q2339 qs98 q135 q2340) ⟨rfl, by decide, by decide, by decide +kernel⟩ ⟨by rw [hRf]; exact Nat.le_of_ble_eq_true rfl, by rw [hRl]; exact Nat.le_of_ble_eq_true rfl⟩ (g_recv hKn hS hk190 (by decide) (by decide)) rfl (by rw [hr190]; rfl) (Nat.le_of_ble_eq_true rfl) dX4_move_190 (fun H locs cells slots hS => ?_)
    refine g_aload_n hx hb hl 2 rfl dX4_move_193 ?_
    refine g_iload_n hx hb hl 3 rfl dX4_move_194 ?_
    refine g_iload_n hx hb hl 4 rfl dX4_move_195 ?_
    refine g_iload hx hb hl 0 rfl dX4_move_196 ?_
    obtain ⟨b198, hb198, h⟩ := g_bnd h
    obtain ⟨hr198, hk198⟩ := g_chk hb198
    obtain ⟨z198, h198, h⟩ := g_bnd h
    refine g_callV (n := 3) (b := b198) (av := [.inl v1, .inl v2, .inl z182.1]) (rs := []) hx hb hml hown hts hKn hRc hRs hS hl (sX4_take l E D h198) (lw_V q2345 q2347 qs100 q135 q2348) ⟨rfl, by decide, by decide, by decide +kernel⟩ ⟨by rw [hRf]; exact Nat.le_of_ble_eq_true rfl, by rw [hRl]; exact Nat.le_of_ble_eq_true rfl⟩ (g_recv hKn hS hk198 (by decide) (by decide)) rfl (by rw [hr198]; rfl) (Nat.le_of_ble_eq_true rfl) dX4_move_198 (fun H locs cells slots hS => ?_)
    refine lv_goto (tgt := 243) hx hb dX4_move_201 (by decide) ?_
    exact g_vretG hx hb hr hlk hKn hRc hRs hS h dX4_move_243
  have h := g_iff w18_4 h
  by_cases w18_5 : x17 = 5
  · refine lv_tableIn (tgt := 204) (off := 186) hx hb dX4_move_18 (by rw [w18_5]; decide) (by rw [w18_5]; decide) (by rw [w18_5]; decide) (by decide) ?_
    have h := g_ift w18_5 h
    refine g_aload_n hx hb hl 1 rfl dX4_move_204 ?_
    refine g_iload_n hx hb hl 2 rfl dX4_move_205 ?_
    refine g_aload_n hx hb hl 1 rfl dX4_move_206 ?_
    refine g_rdR hx hb hown hts hKn hS h fd_4_4_38 rfl (Or.inl (hts _ q1903)) (fun _ z => z) dX4_move_207 (fun x207 h => ?_)
    refine g_iload_n hx hb hl 2 rfl dX4_move_210 ?_
    refine g_ialoadG hx hb hKn hS h dX4_move_211 (fun x211 h => ?_)
    obtain ⟨b212, hb212, h⟩ := g_bnd h
    obtain ⟨hr212, hk212⟩ := g_chk hb212
    obtain ⟨z212, h212, h⟩ := g_bnd h
    refine g_callV (n := 2) (b := b212) (av := [.inl v1, .inl x211]) (rs := []) hx hb hml hown hts hKn hRc hRs hS hl (sX4_upTo l E D h212) (lw_V q2333 q2335 qs97 q135 q2336) ⟨rfl, by decide, by decide, by decide +kernel⟩ ⟨by rw [hRf]; exact Nat.le_of_ble_eq_true rfl, by rw [hRl]; exact Nat.le_of_ble_eq_true rfl⟩ (g_recv hKn hS hk212 (by decide) (by decide)) rfl (by rw [hr212]; rfl) (Nat.le_of_ble_eq_true rfl) dX4_move_212 (fun H locs cells slots hS => ?_)
    refine g_aload_n hx hb hl 1 rfl dX4_move_215 ?_
    refine g_rdR hx hb hown hts hKn hS h fd_4_4_36 rfl (Or.inl (hts _ q1901)) (fun _ z => z) dX4_move_216 (fun x216 h => ?_)
    refine g_iload_n hx hb hl 2 rfl dX4_move_219 ?_
    refine lv_dup2_11 hx hb dX4_move_220 rfl (by first | exact va_rf_cat _ | rfl | exact g_catA _) ?_
    refine g_ialoadG hx hb hKn hS h dX4_move_221 (fun x221 h => ?_)
    refine lv_iconst (v := 1) hx hb dX4_move_222 (by decide) ?_
    refine lv_iadd hx hb dX4_move_223 ?_
    refine g_iastoreG hx hb hKn hS h dX4_move_224 (fun G224 h H locs hS => ?_)
    refine g_aload_n hx hb hl 1 rfl dX4_move_225 ?_
    refine g_iload_n hx hb hl 2 rfl dX4_move_226 ?_
    obtain ⟨b227, hb227, h⟩ := g_bnd h
    obtain ⟨hr227, hk227⟩ := g_chk hb227
    obtain ⟨z227, h227, h⟩ := g_bnd h
    refine g_callV (n := 1) (b := b227) (av := [.inl v1]) (rs := []) hx hb hml hown hts hKn hRc hRs hS hl (sX4_goOn l E D h227) (lw_V q2324 q2326 qs95 q135 q2327) ⟨rfl, by decide, by decide, by decide +kernel⟩ ⟨by rw [hRf]; exact Nat.le_of_ble_eq_true rfl, by rw [hRl]; exact Nat.le_of_ble_eq_true rfl⟩ (g_recv hKn hS hk227 (by decide) (by decide)) rfl (by rw [hr227]; rfl) (Nat.le_of_ble_eq_true rfl) dX4_move_227 (fun H locs cells slots hS => ?_)
    refine lv_goto (tgt := 243) hx hb dX4_move_230 (by decide) ?_
    exact g_vretG hx hb hr hlk hKn hRc hRs hS h dX4_move_243
  have h := g_iff w18_5 h
  refine g_tableD (tgt := 233) hx hb dX4_move_18 (by decide) [0, 1, 2, 3, 4, 5] (by decide) (fun k hk => ?_) ?_
  · simp only [List.mem_cons, List.not_mem_nil, or_false] at hk
    rcases hk with rfl | rfl | rfl | rfl | rfl | rfl
    · exact w18_0
    · exact w18_1
    · exact w18_2
    · exact w18_3
    · exact w18_4
    · exact w18_5
  refine g_aload_n hx hb hl 1 rfl dX4_move_233 ?_
  refine g_aload_n hx hb hl 1 rfl dX4_move_234 ?_
  refine g_rdR hx hb hown hts hKn hS h fd_4_4_24 rfl (Or.inl (hts _ q1889)) (fun _ z => z) dX4_move_235 (fun x235 h => ?_)
  refine g_iload_n hx hb hl 0 rfl dX4_move_238 ?_
  refine g_ialoadG hx hb hKn hS h dX4_move_239 (fun x239 h => ?_)
  obtain ⟨b240, hb240, h⟩ := g_bnd h
  obtain ⟨hr240, hk240⟩ := g_chk hb240
  obtain ⟨z240, h240, h⟩ := g_bnd h
  refine g_callV (n := 1) (b := b240) (av := [.inl x239]) (rs := []) hx hb hml hown hts hKn hRc hRs hS hl (sX4_together l E D h240) (lw_V q2353 q2355 qs102 q135 q2356) ⟨rfl, by decide, by decide, by decide +kernel⟩ ⟨by rw [hRf]; exact Nat.le_of_ble_eq_true rfl, by rw [hRl]; exact Nat.le_of_ble_eq_true rfl⟩ (g_recv hKn hS hk240 (by decide) (by decide)) rfl (by rw [hr240]; rfl) (Nat.le_of_ble_eq_true rfl) dX4_move_240 (fun H locs cells slots hS => ?_)
  exact g_vretG hx hb hr hlk hKn hRc hRs hS h dX4_move_243
