set_option maxRecDepth 100000
/-- SendHallModel.move(II)V -/
def fX4_move (E : g_E) (t : Nat) (v1 : Int32) (v2 : Int32) (G : g_G) : Option (g_G) :=
  (gchk G 4 (some t)).bind fun b3 =>
  (fX4_own E b3 v1 0 G).bind fun z3 =>
  (gpI E z3.2 4 4 (some t) 40 (-1)).bind fun G9 =>
  (grR G9 4 4 (some t) 24).bind fun x13 =>
  (gaI G9 100 x13 z3.1).bind fun x17 =>
  if x17 = 0 then (
    (gchk G9 4 (some t)).bind fun b85 =>
    (fX4_asked E b85 v1 0 G9).bind fun z85 =>
    (gchk z85.2 4 (some t)).bind fun b88 =>
    (fX4_sent E b88 v1 z85.1 z85.2).bind fun z88 =>
    (grI z88.2 4 4 (some t) 4).bind fun x92 =>
    if x92 ≤ z88.1 then (
      (gchk z88.2 4 (some t)).bind fun b124 =>
      (fX4_handOver E b124 v1 z88.2).bind fun z124 =>
      some z124)
    else (
      (gchk z88.2 4 (some t)).bind fun b101 =>
      (fX4_lay E b101 v1 0 z88.2).bind fun z101 =>
      (grR z101 4 4 (some t) 36).bind fun x105 =>
      (gaI z101 100 x105 v1).bind fun x110 =>
      (gsaI E z101 x105 v1 (x110 + 1)).bind fun G113 =>
      (gchk G113 4 (some t)).bind fun b116 =>
      (fX4_goOn E b116 v1 G113).bind fun z116 =>
      some z116))
  else
  if x17 = 1 then (
    (gchk G9 4 (some t)).bind fun b132 =>
    (fX4_handOver E b132 v1 G9).bind fun z132 =>
    some z132)
  else
  if x17 = 2 then (
    (gchk G9 4 (some t)).bind fun b59 =>
    (fX4_lay E b59 v1 1 G9).bind fun z59 =>
    (grR z59 4 4 (some t) 36).bind fun x63 =>
    (gaI z59 100 x63 v1).bind fun x68 =>
    (gsaI E z59 x63 v1 (x68 + 1)).bind fun G71 =>
    (gchk G71 4 (some t)).bind fun b74 =>
    (fX4_goOn E b74 v1 G71).bind fun z74 =>
    some z74)
  else
  if x17 = 3 then (
    (gchk G9 4 (some t)).bind fun b141 =>
    (fX4_asked E b141 v1 0 G9).bind fun z141 =>
    (gchk z141.2 4 (some t)).bind fun b153 =>
    (fX4_asked E b153 v1 1 z141.2).bind fun z153 =>
    (gchk z153.2 4 (some t)).bind fun b156 =>
    (fX4_lying E b156 z141.1 v1 z153.1 z153.2).bind fun z156 =>
    (gchk z156.2 4 (some t)).bind fun b167 =>
    (fX4_take E b167 v1 z141.1 z156.1 z156.2).bind fun z167 =>
    some z167)
  else
  if x17 = 4 then (
    (gchk G9 4 (some t)).bind fun b179 =>
    (fX4_asked E b179 v1 1 G9).bind fun z179 =>
    (gchk z179.2 4 (some t)).bind fun b182 =>
    (fX4_lying E b182 v2 v1 z179.1 z179.2).bind fun z182 =>
    (gchk z182.2 4 (some t)).bind fun b190 =>
    (fX4_noteAny E b190 v1 v2 z182.2).bind fun z190 =>
    (gchk z190 4 (some t)).bind fun b198 =>
    (fX4_take E b198 v1 v2 z182.1 z190).bind fun z198 =>
    some z198)
  else
  if x17 = 5 then (
    (grR G9 4 4 (some t) 38).bind fun x207 =>
    (gaI G9 100 x207 v1).bind fun x211 =>
    (gchk G9 4 (some t)).bind fun b212 =>
    (fX4_upTo E b212 v1 x211 G9).bind fun z212 =>
    (grR z212 4 4 (some t) 36).bind fun x216 =>
    (gaI z212 100 x216 v1).bind fun x221 =>
    (gsaI E z212 x216 v1 (x221 + 1)).bind fun G224 =>
    (gchk G224 4 (some t)).bind fun b227 =>
    (fX4_goOn E b227 v1 G224).bind fun z227 =>
    some z227)
  else
  (
    (grR G9 4 4 (some t) 24).bind fun x235 =>
    (gaI G9 100 x235 z3.1).bind fun x239 =>
    (gchk G9 4 (some t)).bind fun b240 =>
    (fX4_together E b240 x239 G9).bind fun z240 =>
    some z240)
theorem sX4_move (l : Launch) (E : g_E) (D : g_D) {t : Nat} {v1 : Int32} {v2 : Int32} {G : g_G} {q : g_G} (h : fX4_move E t v1 v2 G = some q) : gMet l E D yX4_move (ws_ yX4_move cX4_move 6 (none)) 9 257 [.inr (.inr (some t)), .inl v1, .inl v2] G none q := by
  refine gMet.of (by decide +kernel) (Nat.le_of_ble_eq_true rfl) ?_
  intro p e R s m args below meth c C hS ls hl
  have C : gC p R s m args meth c cX4_move 6 RX4 "move" (none) 9 257 E D := C
  obtain ⟨hx, hb, hml, hown, hts, hKn, hRc, hRs, hc1, hc2, hRf, hRl, hr, hlk, hnm⟩ := id C
  have hl : gls ls 6 [(0, .inr (.inr (some t))), (1, .inl v1), (2, .inl v2)] := hl
  generalize s.heap = H at hS ⊢
  unfold fX4_move at h
  refine g_aload_n hx hb hl 0 rfl dX4_move_0 ?_
  refine g_iload_n hx hb hl 1 rfl dX4_move_1 ?_
  refine lv_iconst (v := 0) hx hb dX4_move_2 (by decide) ?_
  obtain ⟨b3, hb3, h⟩ := g_bnd h
  obtain ⟨hr3, hk3⟩ := g_chk hb3
  obtain ⟨z3, h3, h⟩ := g_bnd h
  refine g_callV (n := 2) (b := b3) (av := [.inl v1, .inl 0]) (rs := []) hx hb hml hown hts hKn hRc hRs hS hl (sX4_own l E D h3) (lw_V q2245 q2247 qs77 q135 q2248) ⟨rfl, by decide, by decide, by decide +kernel⟩ ⟨by rw [hRf]; exact Nat.le_of_ble_eq_true rfl, by rw [hRl]; exact Nat.le_of_ble_eq_true rfl⟩ (g_recv hKn hS hk3 (by decide) (by decide)) rfl (by rw [hr3]; rfl) (Nat.le_of_ble_eq_true rfl) dX4_move_3 (fun H locs cells slots hS => ?_)
  refine g_istore_n (l1 := [(3, .inl z3.1), (0, .inr (.inr (some t))), (1, .inl v1), (2, .inl v2)]) hx hb hl (by decide) rfl dX4_move_6 (fun ls hl => ?_)
  refine g_aload_n hx hb hl 1 rfl dX4_move_7 ?_
  refine lv_iconst (v := (-1)) hx hb dX4_move_8 (by decide) ?_
  refine g_ptI hx hb hown hts hKn hS h fd_4_4_40 (Or.inl (hts _ q1905)) (fun _ z => z) (fun z => nomatch z) dX4_move_9 (fun G9 h H locs hS => ?_)
  refine g_aload_n hx hb hl 1 rfl dX4_move_12 ?_
  refine g_rdR hx hb hown hts hKn hS h fd_4_4_24 rfl (Or.inl (hts _ q1889)) (fun _ z => z) dX4_move_13 (fun x13 h => ?_)
  refine g_iload_n hx hb hl 0 rfl dX4_move_16 ?_
  refine g_ialoadG hx hb hKn hS h dX4_move_17 (fun x17 h => ?_)
  by_cases w18_0 : x17 = 0
  · refine lv_tableIn (tgt := 80) (off := 62) hx hb dX4_move_18 (by rw [w18_0]; decide) (by rw [w18_0]; decide) (by rw [w18_0]; decide) (by decide) ?_
    have h := g_ift w18_0 h
    refine g_aload_n hx hb hl 1 rfl dX4_move_80 ?_
    refine g_iload_n hx hb hl 2 rfl dX4_move_81 ?_
    refine g_aload_n hx hb hl 1 rfl dX4_move_82 ?_
    refine g_iload_n hx hb hl 2 rfl dX4_move_83 ?_
    refine lv_iconst (v := 0) hx hb dX4_move_84 (by decide) ?_
    obtain ⟨b85, hb85, h⟩ := g_bnd h
    obtain ⟨hr85, hk85⟩ := g_chk hb85
    obtain ⟨z85, h85, h⟩ := g_bnd h
    refine g_callV (n := 2) (b := b85) (av := [.inl v1, .inl 0]) (rs := [.inl v1, .inr (.inr (some t))]) hx hb hml hown hts hKn hRc hRs hS hl (sX4_asked l E D h85) (lw_V q2241 q2243 qs76 q135 q2244) ⟨rfl, by decide, by decide, by decide +kernel⟩ ⟨by rw [hRf]; exact Nat.le_of_ble_eq_true rfl, by rw [hRl]; exact Nat.le_of_ble_eq_true rfl⟩ (g_recv hKn hS hk85 (by decide) (by decide)) rfl (by rw [hr85]; rfl) (Nat.le_of_ble_eq_true rfl) dX4_move_85 (fun H locs cells slots hS => ?_)
    obtain ⟨b88, hb88, h⟩ := g_bnd h
    obtain ⟨hr88, hk88⟩ := g_chk hb88
    obtain ⟨z88, h88, h⟩ := g_bnd h
    refine g_callV (n := 2) (b := b88) (av := [.inl v1, .inl z85.1]) (rs := []) hx hb hml hown hts hKn hRc hRs hS hl (sX4_sent l E D h88) (lw_V q2288 q2290 qs87 q135 q2291) ⟨rfl, by decide, by decide, by decide +kernel⟩ ⟨by rw [hRf]; exact Nat.le_of_ble_eq_true rfl, by rw [hRl]; exact Nat.le_of_ble_eq_true rfl⟩ (g_recv hKn hS hk88 (by decide) (by decide)) rfl (by rw [hr88]; rfl) (Nat.le_of_ble_eq_true rfl) dX4_move_88 (fun H locs cells slots hS => ?_)
    refine g_aload_n hx hb hl 1 rfl dX4_move_91 ?_
    refine g_rdI hx hb hown hts hKn hS h fd_4_4_4 rfl (Or.inl (hts _ q1869)) (fun _ z => z) dX4_move_92 (fun x92 h => ?_)
    refine lv_icmp_ge (tgt := 122) hx hb dX4_move_95 (by decide) (fun c_95 => ?_) (fun c_95 => ?_)
    · have h := g_ift c_95 h
      refine g_aload_n hx hb hl 1 rfl dX4_move_122 ?_
      refine g_iload_n hx hb hl 2 rfl dX4_move_123 ?_
      obtain ⟨b124, hb124, h⟩ := g_bnd h
      obtain ⟨hr124, hk124⟩ := g_chk hb124
      obtain ⟨z124, h124, h⟩ := g_bnd h
      refine g_callV (n := 1) (b := b124) (av := [.inl v1]) (rs := []) hx hb hml hown hts hKn hRc hRs hS hl (sX4_handOver l E D h124) (lw_V q2328 q2330 qs96 q135 q2331) ⟨rfl, by decide, by decide, by decide +kernel⟩ ⟨by rw [hRf]; exact Nat.le_of_ble_eq_true rfl, by rw [hRl]; exact Nat.le_of_ble_eq_true rfl⟩ (g_recv hKn hS hk124 (by decide) (by decide)) rfl (by rw [hr124]; rfl) (Nat.le_of_ble_eq_true rfl) dX4_move_124 (fun H locs cells slots hS => ?_)
      refine lv_goto (tgt := 243) hx hb dX4_move_127 (by decide) ?_
      exact g_vretG hx hb hr hlk hKn hRc hRs hS h dX4_move_243
    · have h := g_iff c_95 h
      refine g_aload_n hx hb hl 1 rfl dX4_move_98 ?_
      refine g_iload_n hx hb hl 2 rfl dX4_move_99 ?_
      refine lv_iconst (v := 0) hx hb dX4_move_100 (by decide) ?_
      obtain ⟨b101, hb101, h⟩ := g_bnd h
      obtain ⟨hr101, hk101⟩ := g_chk hb101
      obtain ⟨z101, h101, h⟩ := g_bnd h
      refine g_callV (n := 2) (b := b101) (av := [.inl v1, .inl 0]) (rs := []) hx hb hml hown hts hKn hRc hRs hS hl (sX4_lay l E D h101) (lw_V q2315 q2317 qs93 q135 q2318) ⟨rfl, by decide, by decide, by decide +kernel⟩ ⟨by rw [hRf]; exact Nat.le_of_ble_eq_true rfl, by rw [hRl]; exact Nat.le_of_ble_eq_true rfl⟩ (g_recv hKn hS hk101 (by decide) (by decide)) rfl (by rw [hr101]; rfl) (Nat.le_of_ble_eq_true rfl) dX4_move_101 (fun H locs cells slots hS => ?_)
      refine g_aload_n hx hb hl 1 rfl dX4_move_104 ?_
      refine g_rdR hx hb hown hts hKn hS h fd_4_4_36 rfl (Or.inl (hts _ q1901)) (fun _ z => z) dX4_move_105 (fun x105 h => ?_)
      refine g_iload_n hx hb hl 2 rfl dX4_move_108 ?_
      refine lv_dup2_11 hx hb dX4_move_109 rfl (by first | exact va_rf_cat _ | rfl | exact g_catA _) ?_
      refine g_ialoadG hx hb hKn hS h dX4_move_110 (fun x110 h => ?_)
      refine lv_iconst (v := 1) hx hb dX4_move_111 (by decide) ?_
      refine lv_iadd hx hb dX4_move_112 ?_
      refine g_iastoreG hx hb hKn hS h dX4_move_113 (fun G113 h H locs hS => ?_)
      refine g_aload_n hx hb hl 1 rfl dX4_move_114 ?_
      refine g_iload_n hx hb hl 2 rfl dX4_move_115 ?_
      obtain ⟨b116, hb116, h⟩ := g_bnd h
      obtain ⟨hr116, hk116⟩ := g_chk hb116
      obtain ⟨z116, h116, h⟩ := g_bnd h
      refine g_callV (n := 1) (b := b116) (av := [.inl v1]) (rs := []) hx hb hml hown hts hKn hRc hRs hS hl (sX4_goOn l E D h116) (lw_V q2324 q2326 qs95 q135 q2327) ⟨rfl, by decide, by decide, by decide +kernel⟩ ⟨by rw [hRf]; exact Nat.le_of_ble_eq_true rfl, by rw [hRl]; exact Nat.le_of_ble_eq_true rfl⟩ (g_recv hKn hS hk116 (by decide) (by decide)) rfl (by rw [hr116]; rfl) (Nat.le_of_ble_eq_true rfl) dX4_move_116 (fun H locs cells slots hS => ?_)
      refine lv_goto (tgt := 243) hx hb dX4_move_119 (by decide) ?_
      exact g_vretG hx hb hr hlk hKn hRc hRs hS h dX4_move_243
  have h := g_iff w18_0 h
  by_cases w18_1 : x17 = 1
  · refine lv_tableIn (tgt := 130) (off := 112) hx hb dX4_move_18 (by rw [w18_1]; decide) (by rw [w18_1]; decide) (by rw [w18_1]; decide) (by decide) ?_
    have h := g_ift w18_1 h
    refine g_aload_n hx hb hl 1 rfl dX4_move_130 ?_
    refine g_iload_n hx hb hl 2 rfl dX4_move_131 ?_
    obtain ⟨b132, hb132, h⟩ := g_bnd h
    obtain ⟨hr132, hk132⟩ := g_chk hb132
    obtain ⟨z132, h132, h⟩ := g_bnd h
    refine g_callV (n := 1) (b := b132) (av := [.inl v1]) (rs := []) hx hb hml hown hts hKn hRc hRs hS hl (sX4_handOver l E D h132) (lw_V q2328 q2330 qs96 q135 q2331) ⟨rfl, by decide, by decide, by decide +kernel⟩ ⟨by rw [hRf]; exact Nat.le_of_ble_eq_true rfl, by rw [hRl]; exact Nat.le_of_ble_eq_true rfl⟩ (g_recv hKn hS hk132 (by decide) (by decide)) rfl (by rw [hr132]; rfl) (Nat.le_of_ble_eq_true rfl) dX4_move_132 (fun H locs cells slots hS => ?_)
    refine lv_goto (tgt := 243) hx hb dX4_move_135 (by decide) ?_
    exact g_vretG hx hb hr hlk hKn hRc hRs hS h dX4_move_243
  have h := g_iff w18_1 h
  by_cases w18_2 : x17 = 2
  · refine lv_tableIn (tgt := 56) (off := 38) hx hb dX4_move_18 (by rw [w18_2]; decide) (by rw [w18_2]; decide) (by rw [w18_2]; decide) (by decide) ?_
    have h := g_ift w18_2 h
    refine g_aload_n hx hb hl 1 rfl dX4_move_56 ?_
    refine g_iload_n hx hb hl 2 rfl dX4_move_57 ?_
    refine lv_iconst (v := 1) hx hb dX4_move_58 (by decide) ?_
    obtain ⟨b59, hb59, h⟩ := g_bnd h
    obtain ⟨hr59, hk59⟩ := g_chk hb59
    obtain ⟨z59, h59, h⟩ := g_bnd h
    refine g_callV (n := 2) (b := b59) (av := [.inl v1, .inl 1]) (rs := []) hx hb hml hown hts hKn hRc hRs hS hl (sX4_lay l E D h59) (lw_V q2315 q2317 qs93 q135 q2318) ⟨rfl, by decide, by decide, by decide +kernel⟩ ⟨by rw [hRf]; exact Nat.le_of_ble_eq_true rfl, by rw [hRl]; exact Nat.le_of_ble_eq_true rfl⟩ (g_recv hKn hS hk59 (by decide) (by decide)) rfl (by rw [hr59]; rfl) (Nat.le_of_ble_eq_true rfl) dX4_move_59 (fun H locs cells slots hS => ?_)
    refine g_aload_n hx hb hl 1 rfl dX4_move_62 ?_
    refine g_rdR hx hb hown hts hKn hS h fd_4_4_36 rfl (Or.inl (hts _ q1901)) (fun _ z => z) dX4_move_63 (fun x63 h => ?_)
    refine g_iload_n hx hb hl 2 rfl dX4_move_66 ?_
    refine lv_dup2_11 hx hb dX4_move_67 rfl (by first | exact va_rf_cat _ | rfl | exact g_catA _) ?_
    refine g_ialoadG hx hb hKn hS h dX4_move_68 (fun x68 h => ?_)
    refine lv_iconst (v := 1) hx hb dX4_move_69 (by decide) ?_
    refine lv_iadd hx hb dX4_move_70 ?_
    refine g_iastoreG hx hb hKn hS h dX4_move_71 (fun G71 h H locs hS => ?_)
    refine g_aload_n hx hb hl 1 rfl dX4_move_72 ?_
    refine g_iload_n hx hb hl 2 rfl dX4_move_73 ?_
    obtain ⟨b74, hb74, h⟩ := g_bnd h
    obtain ⟨hr74, hk74⟩ := g_chk hb74
    obtain ⟨z74, h74, h⟩ := g_bnd h
    refine g_callV (n := 1) (b := b74) (av := [.inl v1]) (rs := []) hx hb hml hown hts hKn hRc hRs hS hl (sX4_goOn l E D h74) (lw_V q2324 q2326 qs95 q135 q2327) ⟨rfl, by decide, by decide, by decide +kernel⟩ ⟨by rw [hRf]; exact Nat.le_of_ble_eq_true rfl, by rw [hRl]; exact Nat.le_of_ble_eq_true rfl⟩ (g_recv hKn hS hk74 (by decide) (by decide)) rfl (by rw [hr74]; rfl) (Nat.le_of_ble_eq_true rfl) dX4_move_74 (fun H locs cells slots hS => ?_)
    refine lv_goto (tgt := 243) hx hb dX4_move_77 (by decide) ?_
    exact g_vretG hx hb hr hlk hKn hRc hRs hS h dX4_move_243
  have h := g_iff w18_2 h
  by_cases w18_3 : x17 = 3
  · refine lv_tableIn (tgt := 138) (off := 120) hx hb dX4_move_18 (by rw [w18_3]; decide) (by rw [w18_3]; decide) (by rw [w18_3]; decide) (by decide) ?_
    have h := g_ift w18_3 h
    refine g_aload_n hx hb hl 1 rfl dX4_move_138 ?_
    refine g_iload_n hx hb hl 2 rfl dX4_move_139 ?_
    refine lv_iconst (v := 0) hx hb dX4_move_140 (by decide) ?_
    obtain ⟨b141, hb141, h⟩ := g_bnd h
    obtain ⟨hr141, hk141⟩ := g_chk hb141
    obtain ⟨z141, h141, h⟩ := g_bnd h
    refine g_callV (n := 2) (b := b141) (av := [.inl v1, .inl 0]) (rs := []) hx hb hml hown hts hKn hRc hRs hS hl (sX4_asked l E D h141) (lw_V q2241 q2243 qs76 q135 q2244) ⟨rfl, by decide, by decide, by decide +kernel⟩ ⟨by rw [hRf]; exact Nat.le_of_ble_eq_true rfl, by rw [hRl]; exact Nat.le_of_ble_eq_true rfl⟩ (g_recv hKn hS hk141 (by decide) (by decide)) rfl (by rw [hr141]; rfl) (Nat.le_of_ble_eq_true rfl) dX4_move_141 (fun H locs cells slots hS => ?_)
    refine g_istore (l1 := [(4, .inl z141.1), (3, .inl z3.1), (0, .inr (.inr (some t))), (1, .inl v1), (2, .inl v2)]) hx hb hl (by decide) rfl dX4_move_144 (fun ls hl => ?_)
    refine g_aload_n hx hb hl 2 rfl dX4_move_146 ?_
    refine g_iload hx hb hl 0 rfl dX4_move_147 ?_
    refine g_iload_n hx hb hl 3 rfl dX4_move_149 ?_
    refine g_aload_n hx hb hl 2 rfl dX4_move_150 ?_
    refine g_iload_n hx hb hl 3 rfl dX4_move_151 ?_
    refine lv_iconst (v := 1) hx hb dX4_move_152 (by decide) ?_
    obtain ⟨b153, hb153, h⟩ := g_bnd h
    obtain ⟨hr153, hk153⟩ := g_chk hb153
    obtain ⟨z153, h153, h⟩ := g_bnd h
    refine g_callV (n := 2) (b := b153) (av := [.inl v1, .inl 1]) (rs := [.inl v1, .inl z141.1, .inr (.inr (some t))]) hx hb hml hown hts hKn hRc hRs hS hl (sX4_asked l E D h153) (lw_V q2241 q2243 qs76 q135 q2244) ⟨rfl, by decide, by decide, by decide +kernel⟩ ⟨by rw [hRf]; exact Nat.le_of_ble_eq_true rfl, by rw [hRl]; exact Nat.le_of_ble_eq_true rfl⟩ (g_recv hKn hS hk153 (by decide) (by decide)) rfl (by rw [hr153]; rfl) (Nat.le_of_ble_eq_true rfl) dX4_move_153 (fun H locs cells slots hS => ?_)
    obtain ⟨b156, hb156, h⟩ := g_bnd h
    obtain ⟨hr156, hk156⟩ := g_chk hb156
    obtain ⟨z156, h156, h⟩ := g_bnd h
    refine g_callV (n := 3) (b := b156) (av := [.inl z141.1, .inl v1, .inl z153.1]) (rs := []) hx hb hml hown hts hKn hRc hRs hS hl (sX4_lying l E D h156) (lw_V q2299 q2301 qs89 q135 q2302) ⟨rfl, by decide, by decide, by decide +kernel⟩ ⟨by rw [hRf]; exact Nat.le_of_ble_eq_true rfl, by rw [hRl]; exact Nat.le_of_ble_eq_true rfl⟩ (g_recv hKn hS hk156 (by decide) (by decide)) rfl (by rw [hr156]; rfl) (Nat.le_of_ble_eq_true rfl) dX4_move_156 (fun H locs cells slots hS => ?_)
    refine g_istore (l1 := [(5, .inl z156.1), (4, .inl z141.1), (3, .inl z3.1), (0, .inr (.inr (some t))), (1, .inl v1), (2, .inl v2)]) hx hb hl (by decide) rfl dX4_move_159 (fun ls hl => ?_)
    refine g_aload_n hx hb hl 3 rfl dX4_move_161 ?_
    refine g_iload_n hx hb hl 4 rfl dX4_move_162 ?_
    refine g_iload hx hb hl 1 rfl dX4_move_163 ?_
    refine g_iload hx hb hl 0 rfl dX4_move_165 ?_
    obtain ⟨b167, hb167, h⟩ := g_bnd h
    obtain ⟨hr167, hk167⟩ := g_chk hb167
    obtain ⟨z167, h167, h⟩ := g_bnd h
    refine g_callV (n := 3) (b := b167) (av := [.inl v1, .inl z141.1, .inl z156.1]) (rs := []) hx hb hml hown hts hKn hRc hRs hS hl (sX4_take l E D h167) (lw_V q2345 q2347 qs100 q135 q2348) ⟨rfl, by decide, by decide, by decide +kernel⟩ ⟨by rw [hRf]; exact Nat.le_of_ble_eq_true rfl, by rw [hRl]; exact Nat.le_of_ble_eq_true rfl⟩ (g_recv hKn hS hk167 (by decide) (by decide)) rfl (by rw [hr167]; rfl) (Nat.le_of_ble_eq_true rfl) dX4_move_167 (fun H locs cells slots hS => ?_)
    refine lv_goto (tgt := 243) hx hb dX4_move_170 (by decide) ?_
    exact g_vretG hx hb hr hlk hKn hRc hRs hS h dX4_move_243
  have h := g_iff w18_3 h
  by_cases w18_4 : x17 = 4
  · refine lv_tableIn (tgt := 173) (off := 155) hx hb dX4_move_18 (by rw [w18_4]; decide) (by rw [w18_4]; decide) (by rw [w18_4]; decide) (by decide) ?_
    have h := g_ift w18_4 h
    refine g_aload_n hx hb hl 1 rfl dX4_move_173 ?_
    refine g_iload_n hx hb hl 3 rfl dX4_move_174 ?_
    refine g_iload_n hx hb hl 2 rfl dX4_move_175 ?_
    refine g_aload_n hx hb hl 1 rfl dX4_move_176 ?_
    refine g_iload_n hx hb hl 2 rfl dX4_move_177 ?_
    refine lv_iconst (v := 1) hx hb dX4_move_178 (by decide) ?_
    obtain ⟨b179, hb179, h⟩ := g_bnd h
    obtain ⟨hr179, hk179⟩ := g_chk hb179
    obtain ⟨z179, h179, h⟩ := g_bnd h
    refine g_callV (n := 2) (b := b179) (av := [.inl v1, .inl 1]) (rs := [.inl v1, .inl v2, .inr (.inr (some t))]) hx hb hml hown hts hKn hRc hRs hS hl (sX4_asked l E D h179) (lw_V q2241 q2243 qs76 q135 q2244) ⟨rfl, by decide, by decide, by decide +kernel⟩ ⟨by rw [hRf]; exact Nat.le_of_ble_eq_true rfl, by rw [hRl]; exact Nat.le_of_ble_eq_true rfl⟩ (g_recv hKn hS hk179 (by decide) (by decide)) rfl (by rw [hr179]; rfl) (Nat.le_of_ble_eq_true rfl) dX4_move_179 (fun H locs cells slots hS => ?_)
    obtain ⟨b182, hb182, h⟩ := g_bnd h
    obtain ⟨hr182, hk182⟩ := g_chk hb182
    obtain ⟨z182, h182, h⟩ := g_bnd h
    refine g_callV (n := 3) (b := b182) (av := [.inl v2, .inl v1, .inl z179.1]) (rs := []) hx hb hml hown hts hKn hRc hRs hS hl (sX4_lying l E D h182) (lw_V q2299 q2301 qs89 q135 q2302) ⟨rfl, by decide, by decide, by decide +kernel⟩ ⟨by rw [hRf]; exact Nat.le_of_ble_eq_true rfl, by rw [hRl]; exact Nat.le_of_ble_eq_true rfl⟩ (g_recv hKn hS hk182 (by decide) (by decide)) rfl (by rw [hr182]; rfl) (Nat.le_of_ble_eq_true rfl) dX4_move_182 (fun H locs cells slots hS => ?_)
    refine g_istore (l1 := [(4, .inl z182.1), (3, .inl z3.1), (0, .inr (.inr (some t))), (1, .inl v1), (2, .inl v2)]) hx hb hl (by decide) rfl dX4_move_185 (fun ls hl => ?_)
    refine g_aload_n hx hb hl 2 rfl dX4_move_187 ?_
    refine g_iload_n hx hb hl 3 rfl dX4_move_188 ?_
    refine g_iload_n hx hb hl 4 rfl dX4_move_189 ?_
    obtain ⟨b190, hb190, h⟩ := g_bnd h
    obtain ⟨hr190, hk190⟩ := g_chk hb190
    obtain ⟨z190, h190, h⟩ := g_bnd h
    refine g_callV (n := 2) (b := b190) (av := [.inl v1, .inl v2]) (rs := []) hx hb hml hown hts hKn hRc hRs hS hl (sX4_noteAny l E D h190) (lw_V q2337 q2339 qs98 q135 q2340) ⟨rfl, by decide, by decide, by decide +kernel⟩ ⟨by rw [hRf]; exact Nat.le_of_ble_eq_true rfl, by rw [hRl]; exact Nat.le_of_ble_eq_true rfl⟩ (g_recv hKn hS hk190 (by decide) (by decide)) rfl (by rw [hr190]; rfl) (Nat.le_of_ble_eq_true rfl) dX4_move_190 (fun H locs cells slots hS => ?_)
    refine g_aload_n hx hb hl 2 rfl dX4_move_193 ?_
    refine g_iload_n hx hb hl 3 rfl dX4_move_194 ?_
    refine g_iload_n hx hb hl 4 rfl dX4_move_195 ?_
    refine g_iload hx hb hl 0 rfl dX4_move_196 ?_
    obtain ⟨b198, hb198, h⟩ := g_bnd h
    obtain ⟨hr198, hk198⟩ := g_chk hb198
    obtain ⟨z198, h198, h⟩ := g_bnd h
    refine g_callV (n := 3) (b := b198) (av := [.inl v1, .inl v2, .inl z182.1]) (rs := []) hx hb hml hown hts hKn hRc hRs hS hl (sX4_take l E D h198) (lw_V q2345 q2347 qs100 q135 q2348) ⟨rfl, by decide, by decide, by decide +kernel⟩ ⟨by rw [hRf]; exact Nat.le_of_ble_eq_true rfl, by rw [hRl]; exact Nat.le_of_ble_eq_true rfl⟩ (g_recv hKn hS hk198 (by decide) (by decide)) rfl (by rw [hr198]; rfl) (Nat.le_of_ble_eq_true rfl) dX4_move_198 (fun H locs cells slots hS => ?_)
    refine lv_goto (tgt := 243) hx hb dX4_move_201 (by decide) ?_
    exact g_vretG hx hb hr hlk hKn hRc hRs hS h dX4_move_243
  have h := g_iff w18_4 h
  by_cases w18_5 : x17 = 5
  · refine lv_tableIn (tgt := 204) (off := 186) hx hb dX4_move_18 (by rw [w18_5]; decide) (by rw [w18_5]; decide) (by rw [w18_5]; decide) (by decide) ?_
    have h := g_ift w18_5 h
    refine g_aload_n hx hb hl 1 rfl dX4_move_204 ?_
    refine g_iload_n hx hb hl 2 rfl dX4_move_205 ?_
    refine g_aload_n hx hb hl 1 rfl dX4_move_206 ?_
    refine g_rdR hx hb hown hts hKn hS h fd_4_4_38 rfl (Or.inl (hts _ q1903)) (fun _ z => z) dX4_move_207 (fun x207 h => ?_)
    refine g_iload_n hx hb hl 2 rfl dX4_move_210 ?_
    refine g_ialoadG hx hb hKn hS h dX4_move_211 (fun x211 h => ?_)
    obtain ⟨b212, hb212, h⟩ := g_bnd h
    obtain ⟨hr212, hk212⟩ := g_chk hb212
    obtain ⟨z212, h212, h⟩ := g_bnd h
    refine g_callV (n := 2) (b := b212) (av := [.inl v1, .inl x211]) (rs := []) hx hb hml hown hts hKn hRc hRs hS hl (sX4_upTo l E D h212) (lw_V q2333 q2335 qs97 q135 q2336) ⟨rfl, by decide, by decide, by decide +kernel⟩ ⟨by rw [hRf]; exact Nat.le_of_ble_eq_true rfl, by rw [hRl]; exact Nat.le_of_ble_eq_true rfl⟩ (g_recv hKn hS hk212 (by decide) (by decide)) rfl (by rw [hr212]; rfl) (Nat.le_of_ble_eq_true rfl) dX4_move_212 (fun H locs cells slots hS => ?_)
    refine g_aload_n hx hb hl 1 rfl dX4_move_215 ?_
    refine g_rdR hx hb hown hts hKn hS h fd_4_4_36 rfl (Or.inl (hts _ q1901)) (fun _ z => z) dX4_move_216 (fun x216 h => ?_)
    refine g_iload_n hx hb hl 2 rfl dX4_move_219 ?_
    refine lv_dup2_11 hx hb dX4_move_220 rfl (by first | exact va_rf_cat _ | rfl | exact g_catA _) ?_
    refine g_ialoadG hx hb hKn hS h dX4_move_221 (fun x221 h => ?_)
    refine lv_iconst (v := 1) hx hb dX4_move_222 (by decide) ?_
    refine lv_iadd hx hb dX4_move_223 ?_
    refine g_iastoreG hx hb hKn hS h dX4_move_224 (fun G224 h H locs hS => ?_)
    refine g_aload_n hx hb hl 1 rfl dX4_move_225 ?_
    refine g_iload_n hx hb hl 2 rfl dX4_move_226 ?_
    obtain ⟨b227, hb227, h⟩ := g_bnd h
    obtain ⟨hr227, hk227⟩ := g_chk hb227
    obtain ⟨z227, h227, h⟩ := g_bnd h
    refine g_callV (n := 1) (b := b227) (av := [.inl v1]) (rs := []) hx hb hml hown hts hKn hRc hRs hS hl (sX4_goOn l E D h227) (lw_V q2324 q2326 qs95 q135 q2327) ⟨rfl, by decide, by decide, by decide +kernel⟩ ⟨by rw [hRf]; exact Nat.le_of_ble_eq_true rfl, by rw [hRl]; exact Nat.le_of_ble_eq_true rfl⟩ (g_recv hKn hS hk227 (by decide) (by decide)) rfl (by rw [hr227]; rfl) (Nat.le_of_ble_eq_true rfl) dX4_move_227 (fun H locs cells slots hS => ?_)
    refine lv_goto (tgt := 243) hx hb dX4_move_230 (by decide) ?_
    exact g_vretG hx hb hr hlk hKn hRc hRs hS h dX4_move_243
  have h := g_iff w18_5 h
  refine g_tableD (tgt := 233) hx hb dX4_move_18 (by decide) [0, 1, 2, 3, 4, 5] (by decide) (fun k hk => ?_) ?_
  · simp only [List.mem_cons, List.not_mem_nil, or_false] at hk
    rcases hk with rfl | rfl | rfl | rfl | rfl | rfl
    · exact w18_0
    · exact w18_1
    · exact w18_2
    · exact w18_3
    · exact w18_4
    · exact w18_5
  refine g_aload_n hx hb hl 1 rfl dX4_move_233 ?_
  refine g_aload_n hx hb hl 1 rfl dX4_move_234 ?_
  refine g_rdR hx hb hown hts hKn hS h fd_4_4_24 rfl (Or.inl (hts _ q1889)) (fun _ z => z) dX4_move_235 (fun x235 h => ?_)
  refine g_iload_n hx hb hl 0 rfl dX4_move_238 ?_
  refine g_ialoadG hx hb hKn hS h dX4_move_239 (fun x239 h => ?_)
  obtain ⟨b240, hb240, h⟩ := g_bnd h
  obtain ⟨hr240, hk240⟩ := g_chk hb240
  obtain ⟨z240, h240, h⟩ := g_bnd h
  refine g_callV (n := 1) (b := b240) (av := [.inl x239]) (rs := []) hx hb hml hown hts hKn hRc hRs hS hl (sX4_together l E D h240) (lw_V q2353 q2355 qs102 q135 q2356) ⟨rfl, by decide, by decide, by decide +kernel⟩ ⟨by rw [hRf]; exact Nat.le_of_ble_eq_true rfl, by rw [hRl]; exact Nat.le_of_ble_eq_true rfl⟩ (g_recv hKn hS hk240 (by decide) (by decide)) rfl (by rw [hr240]; rfl) (Nat.le_of_ble_eq_true rfl) dX4_move_240 (fun H locs cells slots hS => ?_)
  exact g_vretG hx hb hr hlk hKn hRc hRs hS h dX4_move_243
/-- SendHallModel.readExpression(I)V -/
def fX4_readExpression_b100 (E : g_E) (fM : g_E → Nat → Int32 → g_G → Option (g_G)) (t : Nat) (v1 : Int32) (s0 : Int32) (G : g_G) : Option (g_G) :=
  (gchk G 4 (some t)).bind fun b102 =>
  (fX4_stepOn E b102 G).bind fun z102 =>
  (gchk z102 4 (some t)).bind fun b107 =>
  (fX4_readSum E fM b107 v1 z102).bind fun z107 =>
  (gchk z107 4 (some t)).bind fun b112 =>
  (fX4_emit E b112 s0 z107).bind fun z112 =>
  some z112
def fX4_readExpression_b85 (E : g_E) (fM : g_E → Nat → Int32 → g_G → Option (g_G)) (t : Nat) (v1 : Int32) (G : g_G) : Option (g_G) :=
  (gchk G 4 (some t)).bind fun b88 =>
  (fX4_isSign E b88 60 G).bind fun z88 =>
  if z88.1 = 0 then (
    fX4_readExpression_b100 E fM t v1 6 z88.2)
  else (
    fX4_readExpression_b100 E fM t v1 5 z88.2)
def fX4_readExpression_b62 (E : g_E) (fM : g_E → Nat → Int32 → g_G → Option (g_G)) (t : Nat) (v1 : Int32) (G : g_G) : Option (g_G) :=
  (gchk G 4 (some t)).bind fun b64 =>
  (fX4_readSum E fM b64 v1 G).bind fun z64 =>
  (gchk z64 4 (some t)).bind fun b70 =>
  (fX4_isSign E b70 60 z64).bind fun z70 =>
  if ¬ z70.1 = 0 then (
    fX4_readExpression_b85 E fM t v1 z70.2)
  else (
    (gchk z70.2 4 (some t)).bind fun b79 =>
    (fX4_isSign E b79 61 z70.2).bind fun z79 =>
    if z79.1 = 0 then (
      some z79.2)
    else (
      fX4_readExpression_b85 E fM t v1 z79.2))
def fX4_readExpression_b38 (E : g_E) (fM : g_E → Nat → Int32 → g_G → Option (g_G)) (t : Nat) (v1 : Int32) (s0 : Int32) (G : g_G) : Option (g_G) :=
  if ¬ s0 = 0 then (
    if ¬ v1 = (7 : Int32) then (
      fX4_readExpression_b62 E fM t v1 G)
    else (
      (gchk G 4 (some t)).bind fun b59 =>
      (fX4_wrong E b59 2 G).bind fun z59 =>
      fX4_readExpression_b62 E fM t v1 z59))
  else (
    (gchk G 4 (some t)).bind fun b45 =>
    (fX4_wrong E b45 1 G).bind fun z45 =>
    fX4_readExpression_b62 E fM t v1 z45)
def fX4_readExpression_b33 (E : g_E) (fM : g_E → Nat → Int32 → g_G → Option (g_G)) (t : Nat) (v1 : Int32) (G : g_G) : Option (g_G) :=
  fX4_readExpression_b38 E fM t v1 1 G
def fX4_readExpression (E : g_E) (fM : g_E → Nat → Int32 → g_G → Option (g_G)) (t : Nat) (v1 : Int32) (G : g_G) : Option (g_G) :=
  (grI G 4 4 (some t) 18).bind fun x1 =>
  if x1 = 0 then (
    (grI G 4 4 (some t) 13).bind fun x9 =>
    if x9 = (2 : Int32) then (
      fX4_readExpression_b33 E fM t v1 G)
    else (
      (grI G 4 4 (some t) 13).bind fun x17 =>
      if x17 = (1 : Int32) then (
        fX4_readExpression_b33 E fM t v1 G)
      else (
        (gchk G 4 (some t)).bind fun b27 =>
        (fX4_isSign E b27 40 G).bind fun z27 =>
        if z27.1 = 0 then (
          fX4_readExpression_b38 E fM t v1 0 z27.2)
        else (
          fX4_readExpression_b33 E fM t v1 z27.2))))
  else (
    some G)
theorem sX4_readExpression_b100 {p : Program} {l : Launch} {e : Env} {R : Room} {s : State} {m : MethodId} {args : Array Value} {below : List Frame} {meth : Method} {c : Code} {E : g_E} {D : g_D} {fM : g_E → Nat → Int32 → g_G → Option (g_G)} {fF : Nat} {fL : Nat} (C : gC p R s m args meth c cX4_readExpression 4 RX4 "readExpression" (none) (fF + 8) (fL + 400) E D) (hfM : ∀ (l : Launch) (E : g_E) (D : g_D), ∀ {t : Nat} {v1 : Int32} {G : g_G} {q : g_G}, fM E t v1 G = some q → gMet l E D yX4_readExpression (ws_ yX4_readExpression cX4_readExpression 4 (none)) fF fL [.inr (.inr (some t)), .inl v1] G none q) (hF : 60 ≤ fF) (hL : 3000 ≤ fL) : ∀ (t : Nat) (v1 : Int32) (s0 : Int32) (G : g_G) (q : g_G), fX4_readExpression_b100 E fM t v1 s0 G = some q → ∀ (H : Heap) (locs : List Loc) (cells slots : Nat) (ls : Array Slot), gSt E D G H locs → gls ls 4 [(0, .inr (.inr (some t))), (1, .inl v1)] → gT p l e R s m args below meth c E D H locs cells slots none q (F0 m 100 ls [.int s0]) := by
  obtain ⟨hx, hb, hml, hown, hts, hKn, hRc, hRs, hc1, hc2, hRf, hRl, hr, hlk, hnm⟩ := id C
  intro t v1 s0 G q h H locs cells slots ls hS hl
  unfold fX4_readExpression_b100 at h
  refine g_istore_n (l1 := [(3, .inl s0), (0, .inr (.inr (some t))), (1, .inl v1)]) hx hb hl (by decide) rfl dX4_readExpression_100 (fun ls hl => ?_)
  refine g_aload_n hx hb hl 1 rfl dX4_readExpression_101 ?_
  obtain ⟨b102, hb102, h⟩ := g_bnd h
  obtain ⟨hr102, hk102⟩ := g_chk hb102
  obtain ⟨z102, h102, h⟩ := g_bnd h
  refine g_callV (n := 0) (b := b102) (av := []) (rs := []) hx hb hml hown hts hKn hRc hRs hS hl (sX4_stepOn l E D h102) (lw_V q2092 q2094 qs49 q135 q2095) ⟨rfl, by decide, by decide, by decide +kernel⟩ ⟨by rw [hRf]; omega, by rw [hRl]; omega⟩ (g_recv hKn hS hk102 (by decide) (by decide)) rfl (by rw [hr102]; rfl) (Nat.le_of_ble_eq_true rfl) dX4_readExpression_102 (fun H locs cells slots hS => ?_)
  refine g_aload_n hx hb hl 1 rfl dX4_readExpression_105 ?_
  refine g_iload_n hx hb hl 2 rfl dX4_readExpression_106 ?_
  obtain ⟨b107, hb107, h⟩ := g_bnd h
  obtain ⟨hr107, hk107⟩ := g_chk hb107
  obtain ⟨z107, h107, h⟩ := g_bnd h
  refine g_callV (n := 1) (b := b107) (av := [.inl v1]) (rs := []) hx hb hml hown hts hKn hRc hRs hS hl (sX4_readSum l E D hfM hF hL h107) (lw_V q2144 q2146 qs59 q135 q2147) ⟨rfl, by decide, by decide, by decide +kernel⟩ ⟨by rw [hRf]; omega, by rw [hRl]; omega⟩ (g_recv hKn hS hk107 (by decide) (by decide)) rfl (by rw [hr107]; rfl) (Nat.le_of_ble_eq_true rfl) dX4_readExpression_107 (fun H locs cells slots hS => ?_)
  refine g_aload_n hx hb hl 1 rfl dX4_readExpression_110 ?_
  refine g_iload_n hx hb hl 0 rfl dX4_readExpression_111 ?_
  obtain ⟨b112, hb112, h⟩ := g_bnd h
  obtain ⟨hr112, hk112⟩ := g_chk hb112
  obtain ⟨z112, h112, h⟩ := g_bnd h
  refine g_callV (n := 1) (b := b112) (av := [.inl s0]) (rs := []) hx hb hml hown hts hKn hRc hRs hS hl (sX4_emit l E D h112) (lw_V q2160 q2162 qs63 q135 q2163) ⟨rfl, by decide, by decide, by decide +kernel⟩ ⟨by rw [hRf]; omega, by rw [hRl]; omega⟩ (g_recv hKn hS hk112 (by decide) (by decide)) rfl (by rw [hr112]; rfl) (Nat.le_of_ble_eq_true rfl) dX4_readExpression_112 (fun H locs cells slots hS => ?_)
  exact g_vretG hx hb hr hlk hKn hRc hRs hS h dX4_readExpression_115
theorem sX4_readExpression_b85 {p : Program} {l : Launch} {e : Env} {R : Room} {s : State} {m : MethodId} {args : Array Value} {below : List Frame} {meth : Method} {c : Code} {E : g_E} {D : g_D} {fM : g_E → Nat → Int32 → g_G → Option (g_G)} {fF : Nat} {fL : Nat} (C : gC p R s m args meth c cX4_readExpression 4 RX4 "readExpression" (none) (fF + 8) (fL + 400) E D) (hfM : ∀ (l : Launch) (E : g_E) (D : g_D), ∀ {t : Nat} {v1 : Int32} {G : g_G} {q : g_G}, fM E t v1 G = some q → gMet l E D yX4_readExpression (ws_ yX4_readExpression cX4_readExpression 4 (none)) fF fL [.inr (.inr (some t)), .inl v1] G none q) (hF : 60 ≤ fF) (hL : 3000 ≤ fL) : ∀ (t : Nat) (v1 : Int32) (G : g_G) (q : g_G), fX4_readExpression_b85 E fM t v1 G = some q → ∀ (H : Heap) (locs : List Loc) (cells slots : Nat) (ls : Array Slot), gSt E D G H locs → gls ls 4 [(0, .inr (.inr (some t))), (1, .inl v1)] → gT p l e R s m args below meth c E D H locs cells slots none q (F0 m 85 ls []) := by
  obtain ⟨hx, hb, hml, hown, hts, hKn, hRc, hRs, hc1, hc2, hRf, hRl, hr, hlk, hnm⟩ := id C
  intro t v1 G q h H locs cells slots ls hS hl
  unfold fX4_readExpression_b85 at h
  refine g_aload_n hx hb hl 0 rfl dX4_readExpression_85 ?_
  refine lv_bipush (v := 60) hx hb dX4_readExpression_86 (by decide) ?_
  obtain ⟨b88, hb88, h⟩ := g_bnd h
  obtain ⟨hr88, hk88⟩ := g_chk hb88
  obtain ⟨z88, h88, h⟩ := g_bnd h
  refine g_callV (n := 1) (b := b88) (av := [.inl 60]) (rs := []) hx hb hml hown hts hKn hRc hRs hS hl (sX4_isSign l E D h88) (lw_V q2140 q2142 qs58 q135 q2143) ⟨rfl, by decide, by decide, by decide +kernel⟩ ⟨by rw [hRf]; omega, by rw [hRl]; omega⟩ (g_recv hKn hS hk88 (by decide) (by decide)) rfl (by rw [hr88]; rfl) (Nat.le_of_ble_eq_true rfl) dX4_readExpression_88 (fun H locs cells slots hS => ?_)
  refine lv_if_eq (tgt := 98) hx hb dX4_readExpression_91 (by decide) (fun c_91 => ?_) (fun c_91 => ?_)
  · have h := g_ift c_91 h
    refine lv_bipush (v := 6) hx hb dX4_readExpression_98 (by decide) ?_
    exact sX4_readExpression_b100 C hfM hF hL _ _ _ _ _ h _ _ _ _ _ hS (gls_sub hl [0, 1] rfl)
  · have h := g_iff c_91 h
    refine lv_iconst (v := 5) hx hb dX4_readExpression_94 (by decide) ?_
    refine lv_goto (tgt := 100) hx hb dX4_readExpression_95 (by decide) ?_
    exact sX4_readExpression_b100 C hfM hF hL _ _ _ _ _ h _ _ _ _ _ hS (gls_sub hl [0, 1] rfl)
theorem sX4_readExpression_b62 {p : Program} {l : Launch} {e : Env} {R : Room} {s : State} {m : MethodId} {args : Array Value} {below : List Frame} {meth : Method} {c : Code} {E : g_E} {D : g_D} {fM : g_E → Nat → Int32 → g_G → Option (g_G)} {fF : Nat} {fL : Nat} (C : gC p R s m args meth c cX4_readExpression 4 RX4 "readExpression" (none) (fF + 8) (fL + 400) E D) (hfM : ∀ (l : Launch) (E : g_E) (D : g_D), ∀ {t : Nat} {v1 : Int32} {G : g_G} {q : g_G}, fM E t v1 G = some q → gMet l E D yX4_readExpression (ws_ yX4_readExpression cX4_readExpression 4 (none)) fF fL [.inr (.inr (some t)), .inl v1] G none q) (hF : 60 ≤ fF) (hL : 3000 ≤ fL) : ∀ (t : Nat) (v1 : Int32) (G : g_G) (q : g_G), fX4_readExpression_b62 E fM t v1 G = some q → ∀ (H : Heap) (locs : List Loc) (cells slots : Nat) (ls : Array Slot), gSt E D G H locs → gls ls 4 [(0, .inr (.inr (some t))), (1, .inl v1)] → gT p l e R s m args below meth c E D H locs cells slots none q (F0 m 62 ls []) := by
  obtain ⟨hx, hb, hml, hown, hts, hKn, hRc, hRs, hc1, hc2, hRf, hRl, hr, hlk, hnm⟩ := id C
  intro t v1 G q h H locs cells slots ls hS hl
  unfold fX4_readExpression_b62 at h
  refine g_aload_n hx hb hl 0 rfl dX4_readExpression_62 ?_
  refine g_iload_n hx hb hl 1 rfl dX4_readExpression_63 ?_
  obtain ⟨b64, hb64, h⟩ := g_bnd h
  obtain ⟨hr64, hk64⟩ := g_chk hb64
  obtain ⟨z64, h64, h⟩ := g_bnd h
  refine g_callV (n := 1) (b := b64) (av := [.inl v1]) (rs := []) hx hb hml hown hts hKn hRc hRs hS hl (sX4_readSum l E D hfM hF hL h64) (lw_V q2144 q2146 qs59 q135 q2147) ⟨rfl, by decide, by decide, by decide +kernel⟩ ⟨by rw [hRf]; omega, by rw [hRl]; omega⟩ (g_recv hKn hS hk64 (by decide) (by decide)) rfl (by rw [hr64]; rfl) (Nat.le_of_ble_eq_true rfl) dX4_readExpression_64 (fun H locs cells slots hS => ?_)
  refine g_aload_n hx hb hl 0 rfl dX4_readExpression_67 ?_
  refine lv_bipush (v := 60) hx hb dX4_readExpression_68 (by decide) ?_
  obtain ⟨b70, hb70, h⟩ := g_bnd h
  obtain ⟨hr70, hk70⟩ := g_chk hb70
  obtain ⟨z70, h70, h⟩ := g_bnd h
  refine g_callV (n := 1) (b := b70) (av := [.inl 60]) (rs := []) hx hb hml hown hts hKn hRc hRs hS hl (sX4_isSign l E D h70) (lw_V q2140 q2142 qs58 q135 q2143) ⟨rfl, by decide, by decide, by decide +kernel⟩ ⟨by rw [hRf]; omega, by rw [hRl]; omega⟩ (g_recv hKn hS hk70 (by decide) (by decide)) rfl (by rw [hr70]; rfl) (Nat.le_of_ble_eq_true rfl) dX4_readExpression_70 (fun H locs cells slots hS => ?_)
  refine lv_if_ne (tgt := 85) hx hb dX4_readExpression_73 (by decide) (fun c_73 => ?_) (fun c_73 => ?_)
  · have h := g_ift c_73 h
    exact sX4_readExpression_b85 C hfM hF hL _ _ _ _ h _ _ _ _ _ hS (gls_sub hl [0, 1] rfl)
  · have h := g_iff (fun z => z c_73) h
    refine g_aload_n hx hb hl 0 rfl dX4_readExpression_76 ?_
    refine lv_bipush (v := 61) hx hb dX4_readExpression_77 (by decide) ?_
    obtain ⟨b79, hb79, h⟩ := g_bnd h
    obtain ⟨hr79, hk79⟩ := g_chk hb79
    obtain ⟨z79, h79, h⟩ := g_bnd h
    refine g_callV (n := 1) (b := b79) (av := [.inl 61]) (rs := []) hx hb hml hown hts hKn hRc hRs hS hl (sX4_isSign l E D h79) (lw_V q2140 q2142 qs58 q135 q2143) ⟨rfl, by decide, by decide, by decide +kernel⟩ ⟨by rw [hRf]; omega, by rw [hRl]; omega⟩ (g_recv hKn hS hk79 (by decide) (by decide)) rfl (by rw [hr79]; rfl) (Nat.le_of_ble_eq_true rfl) dX4_readExpression_79 (fun H locs cells slots hS => ?_)
    refine lv_if_eq (tgt := 115) hx hb dX4_readExpression_82 (by decide) (fun c_82 => ?_) (fun c_82 => ?_)
    · have h := g_ift c_82 h
      exact g_vretG hx hb hr hlk hKn hRc hRs hS h dX4_readExpression_115
    · have h := g_iff c_82 h
      exact sX4_readExpression_b85 C hfM hF hL _ _ _ _ h _ _ _ _ _ hS (gls_sub hl [0, 1] rfl)
theorem sX4_readExpression_b38 {p : Program} {l : Launch} {e : Env} {R : Room} {s : State} {m : MethodId} {args : Array Value} {below : List Frame} {meth : Method} {c : Code} {E : g_E} {D : g_D} {fM : g_E → Nat → Int32 → g_G → Option (g_G)} {fF : Nat} {fL : Nat} (C : gC p R s m args meth c cX4_readExpression 4 RX4 "readExpression" (none) (fF + 8) (fL + 400) E D) (hfM : ∀ (l : Launch) (E : g_E) (D : g_D), ∀ {t : Nat} {v1 : Int32} {G : g_G} {q : g_G}, fM E t v1 G = some q → gMet l E D yX4_readExpression (ws_ yX4_readExpression cX4_readExpression 4 (none)) fF fL [.inr (.inr (some t)), .inl v1] G none q) (hF : 60 ≤ fF) (hL : 3000 ≤ fL) : ∀ (t : Nat) (v1 : Int32) (s0 : Int32) (G : g_G) (q : g_G), fX4_readExpression_b38 E fM t v1 s0 G = some q → ∀ (H : Heap) (locs : List Loc) (cells slots : Nat) (ls : Array Slot), gSt E D G H locs → gls ls 4 [(0, .inr (.inr (some t))), (1, .inl v1)] → gT p l e R s m args below meth c E D H locs cells slots none q (F0 m 38 ls [.int s0]) := by
  obtain ⟨hx, hb, hml, hown, hts, hKn, hRc, hRs, hc1, hc2, hRf, hRl, hr, hlk, hnm⟩ := id C
  intro t v1 s0 G q h H locs cells slots ls hS hl
  unfold fX4_readExpression_b38 at h
  refine g_istore_n (l1 := [(2, .inl s0), (0, .inr (.inr (some t))), (1, .inl v1)]) hx hb hl (by decide) rfl dX4_readExpression_38 (fun ls hl => ?_)
  refine g_iload_n hx hb hl 0 rfl dX4_readExpression_39 ?_
  refine lv_if_ne (tgt := 51) hx hb dX4_readExpression_40 (by decide) (fun c_40 => ?_) (fun c_40 => ?_)
  · have h := g_ift c_40 h
    refine g_iload_n hx hb hl 2 rfl dX4_readExpression_51 ?_
    refine lv_bipush (v := 7) hx hb dX4_readExpression_52 (by decide) ?_
    refine lv_icmp_ne (tgt := 62) hx hb dX4_readExpression_54 (by decide) (fun c_54 => ?_) (fun c_54 => ?_)
    · have h := g_ift c_54 h
      exact sX4_readExpression_b62 C hfM hF hL _ _ _ _ h _ _ _ _ _ hS (gls_sub hl [1, 2] rfl)
    · have h := g_iff (fun z => z c_54) h
      refine g_aload_n hx hb hl 1 rfl dX4_readExpression_57 ?_
      refine lv_iconst (v := 2) hx hb dX4_readExpression_58 (by decide) ?_
      obtain ⟨b59, hb59, h⟩ := g_bnd h
      obtain ⟨hr59, hk59⟩ := g_chk hb59
      obtain ⟨z59, h59, h⟩ := g_bnd h
      refine g_callV (n := 1) (b := b59) (av := [.inl 2]) (rs := []) hx hb hml hown hts hKn hRc hRs hS hl (sX4_wrong l E D h59) (lw_V q2128 q2130 qs55 q135 q2131) ⟨rfl, by decide, by decide, by decide +kernel⟩ ⟨by rw [hRf]; omega, by rw [hRl]; omega⟩ (g_recv hKn hS hk59 (by decide) (by decide)) rfl (by rw [hr59]; rfl) (Nat.le_of_ble_eq_true rfl) dX4_readExpression_59 (fun H locs cells slots hS => ?_)
      exact sX4_readExpression_b62 C hfM hF hL _ _ _ _ h _ _ _ _ _ hS (gls_sub hl [1, 2] rfl)
  · have h := g_iff (fun z => z c_40) h
    refine g_aload_n hx hb hl 1 rfl dX4_readExpression_43 ?_
    refine lv_iconst (v := 1) hx hb dX4_readExpression_44 (by decide) ?_
    obtain ⟨b45, hb45, h⟩ := g_bnd h
    obtain ⟨hr45, hk45⟩ := g_chk hb45
    obtain ⟨z45, h45, h⟩ := g_bnd h
    refine g_callV (n := 1) (b := b45) (av := [.inl 1]) (rs := []) hx hb hml hown hts hKn hRc hRs hS hl (sX4_wrong l E D h45) (lw_V q2128 q2130 qs55 q135 q2131) ⟨rfl, by decide, by decide, by decide +kernel⟩ ⟨by rw [hRf]; omega, by rw [hRl]; omega⟩ (g_recv hKn hS hk45 (by decide) (by decide)) rfl (by rw [hr45]; rfl) (Nat.le_of_ble_eq_true rfl) dX4_readExpression_45 (fun H locs cells slots hS => ?_)
    refine lv_goto (tgt := 62) hx hb dX4_readExpression_48 (by decide) ?_
    exact sX4_readExpression_b62 C hfM hF hL _ _ _ _ h _ _ _ _ _ hS (gls_sub hl [1, 2] rfl)
theorem sX4_readExpression_b33 {p : Program} {l : Launch} {e : Env} {R : Room} {s : State} {m : MethodId} {args : Array Value} {below : List Frame} {meth : Method} {c : Code} {E : g_E} {D : g_D} {fM : g_E → Nat → Int32 → g_G → Option (g_G)} {fF : Nat} {fL : Nat} (C : gC p R s m args meth c cX4_readExpression 4 RX4 "readExpression" (none) (fF + 8) (fL + 400) E D) (hfM : ∀ (l : Launch) (E : g_E) (D : g_D), ∀ {t : Nat} {v1 : Int32} {G : g_G} {q : g_G}, fM E t v1 G = some q → gMet l E D yX4_readExpression (ws_ yX4_readExpression cX4_readExpression 4 (none)) fF fL [.inr (.inr (some t)), .inl v1] G none q) (hF : 60 ≤ fF) (hL : 3000 ≤ fL) : ∀ (t : Nat) (v1 : Int32) (G : g_G) (q : g_G), fX4_readExpression_b33 E fM t v1 G = some q → ∀ (H : Heap) (locs : List Loc) (cells slots : Nat) (ls : Array Slot), gSt E D G H locs → gls ls 4 [(0, .inr (.inr (some t))), (1, .inl v1)] → gT p l e R s m args below meth c E D H locs cells slots none q (F0 m 33 ls []) := by
  obtain ⟨hx, hb, hml, hown, hts, hKn, hRc, hRs, hc1, hc2, hRf, hRl, hr, hlk, hnm⟩ := id C
  intro t v1 G q h H locs cells slots ls hS hl
  unfold fX4_readExpression_b33 at h
  refine lv_iconst (v := 1) hx hb dX4_readExpression_33 (by decide) ?_
  refine lv_goto (tgt := 38) hx hb dX4_readExpression_34 (by decide) ?_
  exact sX4_readExpression_b38 C hfM hF hL _ _ _ _ _ h _ _ _ _ _ hS (gls_sub hl [0, 1] rfl)
theorem sX4_readExpression (l : Launch) (E : g_E) (D : g_D) {fM : g_E → Nat → Int32 → g_G → Option (g_G)} {fF : Nat} {fL : Nat} (hfM : ∀ (l : Launch) (E : g_E) (D : g_D), ∀ {t : Nat} {v1 : Int32} {G : g_G} {q : g_G}, fM E t v1 G = some q → gMet l E D yX4_readExpression (ws_ yX4_readExpression cX4_readExpression 4 (none)) fF fL [.inr (.inr (some t)), .inl v1] G none q) (hF : 60 ≤ fF) (hL : 3000 ≤ fL) {t : Nat} {v1 : Int32} {G : g_G} {q : g_G} (h : fX4_readExpression E fM t v1 G = some q) : gMet l E D yX4_readExpression (ws_ yX4_readExpression cX4_readExpression 4 (none)) (fF + 8) (fL + 400) [.inr (.inr (some t)), .inl v1] G none q := by
  refine gMet.of (by decide +kernel) (Nat.le_of_ble_eq_true rfl) ?_
  intro p e R s m args below meth c C hS ls hl
  have C : gC p R s m args meth c cX4_readExpression 4 RX4 "readExpression" (none) (fF + 8) (fL + 400) E D := C
  obtain ⟨hx, hb, hml, hown, hts, hKn, hRc, hRs, hc1, hc2, hRf, hRl, hr, hlk, hnm⟩ := id C
  have hl : gls ls 4 [(0, .inr (.inr (some t))), (1, .inl v1)] := hl
  generalize s.heap = H at hS ⊢
  unfold fX4_readExpression at h
  refine g_aload_n hx hb hl 0 rfl dX4_readExpression_0 ?_
  refine g_rdI hx hb hown hts hKn hS h fd_4_4_18 rfl (Or.inl (hts _ q1883)) (fun _ z => z) dX4_readExpression_1 (fun x1 h => ?_)
  refine lv_if_eq (tgt := 8) hx hb dX4_readExpression_4 (by decide) (fun c_4 => ?_) (fun c_4 => ?_)
  · have h := g_ift c_4 h
    refine g_aload_n hx hb hl 0 rfl dX4_readExpression_8 ?_
    refine g_rdI hx hb hown hts hKn hS h fd_4_4_13 rfl (Or.inl (hts _ q1878)) (fun _ z => z) dX4_readExpression_9 (fun x9 h => ?_)
    refine lv_iconst (v := 2) hx hb dX4_readExpression_12 (by decide) ?_
    refine lv_icmp_eq (tgt := 33) hx hb dX4_readExpression_13 (by decide) (fun c_13 => ?_) (fun c_13 => ?_)
    · have h := g_ift c_13 h
      exact sX4_readExpression_b33 C hfM hF hL _ _ _ _ h _ _ _ _ _ hS (gls_sub hl [0, 1] rfl)
    · have h := g_iff c_13 h
      refine g_aload_n hx hb hl 0 rfl dX4_readExpression_16 ?_
      refine g_rdI hx hb hown hts hKn hS h fd_4_4_13 rfl (Or.inl (hts _ q1878)) (fun _ z => z) dX4_readExpression_17 (fun x17 h => ?_)
      refine lv_iconst (v := 1) hx hb dX4_readExpression_20 (by decide) ?_
      refine lv_icmp_eq (tgt := 33) hx hb dX4_readExpression_21 (by decide) (fun c_21 => ?_) (fun c_21 => ?_)
      · have h := g_ift c_21 h
        exact sX4_readExpression_b33 C hfM hF hL _ _ _ _ h _ _ _ _ _ hS (gls_sub hl [0, 1] rfl)
      · have h := g_iff c_21 h
        refine g_aload_n hx hb hl 0 rfl dX4_readExpression_24 ?_
        refine lv_bipush (v := 40) hx hb dX4_readExpression_25 (by decide) ?_
        obtain ⟨b27, hb27, h⟩ := g_bnd h
        obtain ⟨hr27, hk27⟩ := g_chk hb27
        obtain ⟨z27, h27, h⟩ := g_bnd h
        refine g_callV (n := 1) (b := b27) (av := [.inl 40]) (rs := []) hx hb hml hown hts hKn hRc hRs hS hl (sX4_isSign l E D h27) (lw_V q2140 q2142 qs58 q135 q2143) ⟨rfl, by decide, by decide, by decide +kernel⟩ ⟨by rw [hRf]; omega, by rw [hRl]; omega⟩ (g_recv hKn hS hk27 (by decide) (by decide)) rfl (by rw [hr27]; rfl) (Nat.le_of_ble_eq_true rfl) dX4_readExpression_27 (fun H locs cells slots hS => ?_)
        refine lv_if_eq (tgt := 37) hx hb dX4_readExpression_30 (by decide) (fun c_30 => ?_) (fun c_30 => ?_)
        · have h := g_ift c_30 h
          refine lv_iconst (v := 0) hx hb dX4_readExpression_37 (by decide) ?_
          exact sX4_readExpression_b38 C hfM hF hL _ _ _ _ _ h _ _ _ _ _ hS (gls_sub hl [0, 1] rfl)
        · have h := g_iff c_30 h
          exact sX4_readExpression_b33 C hfM hF hL _ _ _ _ h _ _ _ _ _ hS (gls_sub hl [0, 1] rfl)
  · have h := g_iff c_4 h
    exact g_vretG hx hb hr hlk hKn hRc hRs hS h dX4_readExpression_7
/-- tied: calls may lie d deep in one another -/
def gF_mexpr : Nat → Nat
  | 0 => 60
  | d + 1 => gF_mexpr d + 8
def gL_mexpr : Nat → Nat
  | 0 => 3000
  | d + 1 => gL_mexpr d + 400
theorem gF_mexpr_ge : ∀ d, 60 ≤ gF_mexpr d
  | 0 => Nat.le_refl _
  | d + 1 => Nat.le_trans (gF_mexpr_ge d) (Nat.le_add_right _ _)
theorem gL_mexpr_ge : ∀ d, 3000 ≤ gL_mexpr d
  | 0 => Nat.le_refl _
  | d + 1 => Nat.le_trans (gL_mexpr_ge d) (Nat.le_add_right _ _)
def fR_mexpr : Nat → g_E → Nat → Int32 → g_G → Option (g_G)
  | 0 => fun _ _ _ _ => none
  | d + 1 => fun E t v1 G => fX4_readExpression E (fR_mexpr d) t v1 G
theorem sR_mexpr : ∀ (d : Nat) (l : Launch) (E : g_E) (D : g_D), ∀ {t : Nat} {v1 : Int32} {G : g_G} {q : g_G}, fR_mexpr d E t v1 G = some q → gMet l E D yX4_readExpression (ws_ yX4_readExpression cX4_readExpression 4 (none)) (gF_mexpr d) (gL_mexpr d) [.inr (.inr (some t)), .inl v1] G none q
  | 0 => by
    intro l E D t v1 G q h
    exact g_no h
  | d + 1 => by
    intro l E D t v1 G q h
    exact sX4_readExpression l E D (sR_mexpr d) (gF_mexpr_ge d) (gL_mexpr_ge d) h
theorem sT_mexpr (l : Launch) (E : g_E) (D : g_D) {t : Nat} {v1 : Int32} {G : g_G} {q : g_G} (h : fR_mexpr 10 E t v1 G = some q) : gMet l E D yX4_readExpression (ws_ yX4_readExpression cX4_readExpression 4 (none)) 140 7000 [.inr (.inr (some t)), .inl v1] G none q := sR_mexpr 10 l E D h
/-- SendHallModel.readInto(IIZ)V -/
def fX4_readInto_b34 (E : g_E) (t : Nat) (v1 : Int32) (v2 : Int32) (G : g_G) : Option (g_G) :=
  (grR G 4 4 (some t) 26).bind fun x35 =>
  (grI G 4 4 (some t) 21).bind fun x47 =>
  (gsaI E G x35 ((3 * (40 + v1)) + v2) x47).bind fun G50 =>
  some G50
def fX4_readInto (E : g_E) (t : Nat) (v1 : Int32) (v2 : Int32) (v3 : Int32) (G : g_G) : Option (g_G) :=
  (grR G 4 4 (some t) 25).bind fun x1 =>
  (grI G 4 4 (some t) 21).bind fun x13 =>
  (gsaI E G x1 ((3 * (40 + v1)) + v2) x13).bind fun G16 =>
  if v3 = 0 then (
    (gchk G16 4 (some t)).bind fun b31 =>
    (fX4_readSum E (fR_mexpr 10) b31 0 G16).bind fun z31 =>
    fX4_readInto_b34 E t v1 v2 z31)
  else (
    (gchk G16 4 (some t)).bind fun b23 =>
    (fR_mexpr 10 E b23 0 G16).bind fun z23 =>
    fX4_readInto_b34 E t v1 v2 z23)
theorem sX4_readInto_b34 {p : Program} {l : Launch} {e : Env} {R : Room} {s : State} {m : MethodId} {args : Array Value} {below : List Frame} {meth : Method} {c : Code} {E : g_E} {D : g_D} (C : gC p R s m args meth c cX4_readInto 4 RX4 "readInto" (none) 147 7322 E D) : ∀ (t : Nat) (v1 : Int32) (v2 : Int32) (G : g_G) (q : g_G), fX4_readInto_b34 E t v1 v2 G = some q → ∀ (H : Heap) (locs : List Loc) (cells slots : Nat) (ls : Array Slot), gSt E D G H locs → gls ls 4 [(0, .inr (.inr (some t))), (1, .inl v1), (2, .inl v2)] → gT p l e R s m args below meth c E D H locs cells slots none q (F0 m 34 ls []) := by
  obtain ⟨hx, hb, hml, hown, hts, hKn, hRc, hRs, hc1, hc2, hRf, hRl, hr, hlk, hnm⟩ := id C
  intro t v1 v2 G q h H locs cells slots ls hS hl
  unfold fX4_readInto_b34 at h
  refine g_aload_n hx hb hl 0 rfl dX4_readInto_34 ?_
  refine g_rdR hx hb hown hts hKn hS h fd_4_4_26 rfl (Or.inl (hts _ q1891)) (fun _ z => z) dX4_readInto_35 (fun x35 h => ?_)
  refine lv_iconst (v := 3) hx hb dX4_readInto_38 (by decide) ?_
  refine lv_bipush (v := 40) hx hb dX4_readInto_39 (by decide) ?_
  refine g_iload_n hx hb hl 1 rfl dX4_readInto_41 ?_
  refine lv_iadd hx hb dX4_readInto_42 ?_
  refine lv_imul hx hb dX4_readInto_43 ?_
  refine g_iload_n hx hb hl 2 rfl dX4_readInto_44 ?_
  refine lv_iadd hx hb dX4_readInto_45 ?_
  refine g_aload_n hx hb hl 0 rfl dX4_readInto_46 ?_
  refine g_rdI hx hb hown hts hKn hS h fd_4_4_21 rfl (Or.inl (hts _ q1886)) (fun _ z => z) dX4_readInto_47 (fun x47 h => ?_)
  refine g_iastoreG hx hb hKn hS h dX4_readInto_50 (fun G50 h H locs hS => ?_)
  exact g_vretG hx hb hr hlk hKn hRc hRs hS h dX4_readInto_51
theorem sX4_readInto (l : Launch) (E : g_E) (D : g_D) {t : Nat} {v1 : Int32} {v2 : Int32} {v3 : Int32} {G : g_G} {q : g_G} (h : fX4_readInto E t v1 v2 v3 G = some q) : gMet l E D yX4_readInto (ws_ yX4_readInto cX4_readInto 4 (none)) 147 7322 [.inr (.inr (some t)), .inl v1, .inl v2, .inl v3] G none q := by
  refine gMet.of (by decide +kernel) (Nat.le_of_ble_eq_true rfl) ?_
  intro p e R s m args below meth c C hS ls hl
  have C : gC p R s m args meth c cX4_readInto 4 RX4 "readInto" (none) 147 7322 E D := C
  obtain ⟨hx, hb, hml, hown, hts, hKn, hRc, hRs, hc1, hc2, hRf, hRl, hr, hlk, hnm⟩ := id C
  have hl : gls ls 4 [(0, .inr (.inr (some t))), (1, .inl v1), (2, .inl v2), (3, .inl v3)] := hl
  generalize s.heap = H at hS ⊢
  unfold fX4_readInto at h
  refine g_aload_n hx hb hl 0 rfl dX4_readInto_0 ?_
  refine g_rdR hx hb hown hts hKn hS h fd_4_4_25 rfl (Or.inl (hts _ q1890)) (fun _ z => z) dX4_readInto_1 (fun x1 h => ?_)
  refine lv_iconst (v := 3) hx hb dX4_readInto_4 (by decide) ?_
  refine lv_bipush (v := 40) hx hb dX4_readInto_5 (by decide) ?_
  refine g_iload_n hx hb hl 1 rfl dX4_readInto_7 ?_
  refine lv_iadd hx hb dX4_readInto_8 ?_
  refine lv_imul hx hb dX4_readInto_9 ?_
  refine g_iload_n hx hb hl 2 rfl dX4_readInto_10 ?_
  refine lv_iadd hx hb dX4_readInto_11 ?_
  refine g_aload_n hx hb hl 0 rfl dX4_readInto_12 ?_
  refine g_rdI hx hb hown hts hKn hS h fd_4_4_21 rfl (Or.inl (hts _ q1886)) (fun _ z => z) dX4_readInto_13 (fun x13 h => ?_)
  refine g_iastoreG hx hb hKn hS h dX4_readInto_16 (fun G16 h H locs hS => ?_)
  refine g_iload_n hx hb hl 3 rfl dX4_readInto_17 ?_
  refine lv_if_eq (tgt := 29) hx hb dX4_readInto_18 (by decide) (fun c_18 => ?_) (fun c_18 => ?_)
  · have h := g_ift c_18 h
    refine g_aload_n hx hb hl 0 rfl dX4_readInto_29 ?_
    refine lv_iconst (v := 0) hx hb dX4_readInto_30 (by decide) ?_
    obtain ⟨b31, hb31, h⟩ := g_bnd h
    obtain ⟨hr31, hk31⟩ := g_chk hb31
    obtain ⟨z31, h31, h⟩ := g_bnd h
    refine g_callV (n := 1) (b := b31) (av := [.inl 0]) (rs := []) hx hb hml hown hts hKn hRc hRs hS hl (sX4_readSum l E D (fun l E D => sT_mexpr l E D ) (Nat.le_of_ble_eq_true rfl) (Nat.le_of_ble_eq_true rfl) h31) (lw_V q2144 q2146 qs59 q135 q2147) ⟨rfl, by decide, by decide, by decide +kernel⟩ ⟨by rw [hRf]; exact Nat.le_of_ble_eq_true rfl, by rw [hRl]; exact Nat.le_of_ble_eq_true rfl⟩ (g_recv hKn hS hk31 (by decide) (by decide)) rfl (by rw [hr31]; rfl) (Nat.le_of_ble_eq_true rfl) dX4_readInto_31 (fun H locs cells slots hS => ?_)
    exact sX4_readInto_b34 C _ _ _ _ _ h _ _ _ _ _ hS (gls_sub hl [0, 1, 2] rfl)
  · have h := g_iff c_18 h
    refine g_aload_n hx hb hl 0 rfl dX4_readInto_21 ?_
    refine lv_iconst (v := 0) hx hb dX4_readInto_22 (by decide) ?_
    obtain ⟨b23, hb23, h⟩ := g_bnd h
    obtain ⟨hr23, hk23⟩ := g_chk hb23
    obtain ⟨z23, h23, h⟩ := g_bnd h
    refine g_callV (n := 1) (b := b23) (av := [.inl 0]) (rs := []) hx hb hml hown hts hKn hRc hRs hS hl (sT_mexpr l E D h23) (lw_V q2136 q2138 qs57 q135 q2139) ⟨rfl, by decide, by decide, by decide +kernel⟩ ⟨by rw [hRf]; exact Nat.le_of_ble_eq_true rfl, by rw [hRl]; exact Nat.le_of_ble_eq_true rfl⟩ (g_recv hKn hS hk23 (by decide) (by decide)) rfl (by rw [hr23]; rfl) (Nat.le_of_ble_eq_true rfl) dX4_readInto_23 (fun H locs cells slots hS => ?_)
    refine lv_goto (tgt := 34) hx hb dX4_readInto_26 (by decide) ?_
    exact sX4_readInto_b34 C _ _ _ _ _ h _ _ _ _ _ hS (gls_sub hl [0, 1, 2] rfl)
