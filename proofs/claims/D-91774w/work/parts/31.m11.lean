set_option maxRecDepth 100000
/-- SendHall.<init>()V -/
def fX1_init_b179 (E : g_E) : Nat → Nat → Int32 → g_G → Option (g_G)
  | 0, _, _, _ => none
  | n + 1, t, v1, G =>
    if (200 : Int32) < v1 then (
      some G)
    else (
      (grR G 1 1 (some t) 12).bind fun x187 =>
      (gnewO E G 3 13).bind fun z191 =>
      (fX3_init E z191.1 z191.2).bind fun z195 =>
      (gsaR E z195 121 x187 v1 (some z191.1)).bind fun G198 =>
      fX1_init_b179 E n t (v1 + 1) G198)
def fX1_init (E : g_E) (t : Nat) (G : g_G) : Option (g_G) :=
  (gpI E G 1 1 (some t) 0 2).bind fun G6 =>
  (gnewO E G6 2 3).bind fun z10 =>
  (fX2_init E z10.1 z10.2).bind fun z14 =>
  (gpR E z14 1 1 (some t) 4 (some z10.1)).bind fun G17 =>
  (gnewA E G17 102 40).bind fun z23 =>
  (gpR E z23.2 1 1 (some t) 5 (some z23.1)).bind fun G25 =>
  (gnewA E G25 100 8).bind fun z31 =>
  (gpR E z31.2 1 1 (some t) 6 (some z31.1)).bind fun G33 =>
  (gnewA E G33 100 8).bind fun z39 =>
  (gpR E z39.2 1 1 (some t) 7 (some z39.1)).bind fun G41 =>
  (gnewA E G41 100 8).bind fun z47 =>
  (gpR E z47.2 1 1 (some t) 8 (some z47.1)).bind fun G49 =>
  (gnewA E G49 101 700).bind fun z56 =>
  (gpR E z56.2 1 1 (some t) 9 (some z56.1)).bind fun G58 =>
  (gpI E G58 1 1 (some t) 11 (-1)).bind fun G63 =>
  (gnewA E G63 121 201).bind fun z70 =>
  (gpR E z70.2 1 1 (some t) 12 (some z70.1)).bind fun G73 =>
  (gnewO E G73 17 3).bind fun z77 =>
  (fJ2_init E z77.1 2 z77.2).bind fun z82 =>
  (gpR E z82 1 1 (some t) 16 (some z77.1)).bind fun G85 =>
  (gnewA E G85 100 320).bind fun z92 =>
  (gpR E z92.2 1 1 (some t) 17 (some z92.1)).bind fun G94 =>
  (gnewA E G94 102 40).bind fun z100 =>
  (gpR E z100.2 1 1 (some t) 19 (some z100.1)).bind fun G102 =>
  (gnewO E G102 3 13).bind fun z106 =>
  (fX3_init E z106.1 z106.2).bind fun z110 =>
  (gpR E z110 1 1 (some t) 20 (some z106.1)).bind fun G113 =>
  (gnewA E G113 100 320).bind fun z120 =>
  (gpR E z120.2 1 1 (some t) 22 (some z120.1)).bind fun G122 =>
  (gnewA E G122 100 16).bind fun z128 =>
  (gpR E z128.2 1 1 (some t) 23 (some z128.1)).bind fun G130 =>
  (gnewA E G130 100 8).bind fun z136 =>
  (gpR E z136.2 1 1 (some t) 24 (some z136.1)).bind fun G138 =>
  (gnewA E G138 100 8).bind fun z144 =>
  (gpR E z144.2 1 1 (some t) 28 (some z144.1)).bind fun G146 =>
  (gnewA E G146 100 8).bind fun z152 =>
  (gpR E z152.2 1 1 (some t) 29 (some z152.1)).bind fun G154 =>
  (gnewA E G154 100 320).bind fun z161 =>
  (gpR E z161.2 1 1 (some t) 30 (some z161.1)).bind fun G163 =>
  (gnewO E G163 3 13).bind fun z167 =>
  (fX3_init E z167.1 z167.2).bind fun z171 =>
  (gpR E z171 1 1 (some t) 32 (some z167.1)).bind fun G174 =>
  fX1_init_b179 E gFU t 0 G174
theorem sX1_init_b179 {p : Program} {l : Launch} {e : Env} {R : Room} {s : State} {m : MethodId} {args : Array Value} {below : List Frame} {meth : Method} {c : Code} {E : g_E} {D : g_D} (C : gC p R s m args meth c cX1_init 2 RX1 "<init>" (none) 5 145 E D) : ∀ (n : Nat) (t : Nat) (v1 : Int32) (G : g_G) (q : g_G), fX1_init_b179 E n t v1 G = some q → ∀ (H : Heap) (locs : List Loc) (cells slots : Nat) (ls : Array Slot), gSt E D G H locs → gls ls 2 [(0, .inr (.inr (some t))), (1, .inl v1)] → gT p l e R s m args below meth c E D H locs cells slots none q (F0 m 179 ls []) := by
  obtain ⟨hx, hb, hml, hown, hts, hKn, hRc, hRs, hc1, hc2, hRf, hRl, hr, hlk, hnm⟩ := id C
  intro n
  induction n with
  | zero =>
    intro t v1 G q h
    exact g_no h
  | succ n ih =>
    intro t v1 G q h H locs cells slots ls hS hl
    rw [fX1_init_b179] at h
    refine g_iload_n hx hb hl 1 rfl dX1_init_179 ?_
    refine lv_sipush (v := 200) hx hb dX1_init_180 (by decide) ?_
    refine lv_icmp_gt (tgt := 205) hx hb dX1_init_183 (by decide) (fun c_183 => ?_) (fun c_183 => ?_)
    · have h := g_ift c_183 h
      exact g_vretG hx hb hr hlk hKn hRc hRs hS h dX1_init_205
    · have h := g_iff c_183 h
      refine g_aload_n hx hb hl 0 rfl dX1_init_186 ?_
      refine g_rdR hx hb hown hts hKn hS h fd_1_1_12 rfl (Or.inl (hts _ q609)) (fun _ z => z) dX1_init_187 (fun x187 h => ?_)
      refine g_iload_n hx hb hl 1 rfl dX1_init_190 ?_
      refine g_newG (k := 3) hx hb hown hts hKn hRc hRs hS h (by decide) (by decide) (hts _ q526) (hts _ q530) (hts _ q134) dX1_init_191 (fun z191 h H locs cells slots hS => ?_)
      refine lv_dup hx hb dX1_init_194 (by first | exact va_rf_cat _ | rfl | exact g_catA _) ?_
      obtain ⟨z195, h195, h⟩ := g_bnd h
      refine g_callIN (n := 0) (av := []) (rs := [.inr (.inr (some z191.1)), .inl v1, .inr (.inr x187)]) hx hb hml hown hts hKn hRc hRs hS hl (sX3_init l E D h195) (lw_meth q533) (hts _ q134) q531 (hts _ q532) rfl ⟨by decide, by decide, by decide +kernel⟩ ⟨by rw [hRf]; exact Nat.le_of_ble_eq_true rfl, by rw [hRl]; exact Nat.le_of_ble_eq_true rfl⟩ rfl rfl (Nat.le_of_ble_eq_true rfl) dX1_init_195 (fun H locs cells slots hS => ?_)
      refine g_aastoreG hx hb hKn hS h (by decide) dX1_init_198 (fun G198 h H locs hS => ?_)
      refine g_iinc (l1 := [(1, .inl (v1 + 1)), (0, .inr (.inr (some t)))]) (v := (v1 + 1)) hx hb hl (k := 1) rfl (by rfl) (by decide) rfl dX1_init_199 (fun ls hl => ?_)
      refine lv_goto (tgt := 179) hx hb dX1_init_202 (by decide) ?_
      exact ih _ _ _ _ h _ _ _ _ _ hS (gls_sub hl [1, 0] rfl)
theorem sX1_init (l : Launch) (E : g_E) (D : g_D) {t : Nat} {G : g_G} {q : g_G} (h : fX1_init E t G = some q) : gMet l E D yX1_init (ws_ yX1_init cX1_init 2 (none)) 5 145 [.inr (.inr (some t))] G none q := by
  refine gMet.of (by decide +kernel) (Nat.le_of_ble_eq_true rfl) ?_
  intro p e R s m args below meth c C hS ls hl
  have C : gC p R s m args meth c cX1_init 2 RX1 "<init>" (none) 5 145 E D := C
  obtain ⟨hx, hb, hml, hown, hts, hKn, hRc, hRs, hc1, hc2, hRf, hRl, hr, hlk, hnm⟩ := id C
  have hl : gls ls 2 [(0, .inr (.inr (some t)))] := hl
  generalize s.heap = H at hS ⊢
  unfold fX1_init at h
  refine g_aload_n hx hb hl 0 rfl dX1_init_0 ?_
  refine g_objInit (rs := []) hx hb hml hown hl (hts _ q161) (hts _ q162) (hts _ q163) rfl dX1_init_1 ⟨by rw [hRf]; exact Nat.le_of_ble_eq_true rfl, by rw [hRl]; exact Nat.le_of_ble_eq_true rfl⟩ ?_
  refine g_aload_n hx hb hl 0 rfl dX1_init_4 ?_
  refine lv_iconst (v := 2) hx hb dX1_init_5 (by decide) ?_
  refine g_ptI hx hb hown hts hKn hS h fd_1_1_0 (Or.inl (hts _ q597)) (fun _ z => z) (fun z => nomatch z) dX1_init_6 (fun G6 h H locs hS => ?_)
  refine g_aload_n hx hb hl 0 rfl dX1_init_9 ?_
  refine g_newG (k := 2) hx hb hown hts hKn hRc hRs hS h (by decide) (by decide) (hts _ q164) (hts _ q165) (hts _ q114) dX1_init_10 (fun z10 h H locs cells slots hS => ?_)
  refine lv_dup hx hb dX1_init_13 (by first | exact va_rf_cat _ | rfl | exact g_catA _) ?_
  obtain ⟨z14, h14, h⟩ := g_bnd h
  refine g_callIN (n := 0) (av := []) (rs := [.inr (.inr (some z10.1)), .inr (.inr (some t))]) hx hb hml hown hts hKn hRc hRs hS hl (sX2_init l E D h14) (lw_meth q168) (hts _ q114) q166 (hts _ q167) rfl ⟨by decide, by decide, by decide +kernel⟩ ⟨by rw [hRf]; exact Nat.le_of_ble_eq_true rfl, by rw [hRl]; exact Nat.le_of_ble_eq_true rfl⟩ rfl rfl (Nat.le_of_ble_eq_true rfl) dX1_init_14 (fun H locs cells slots hS => ?_)
  refine g_ptR hx hb hown hts hKn hS h fd_1_1_4 rfl (Or.inl (hts _ q601)) (fun _ z => z) (fun z => nomatch z) dX1_init_17 (fun G17 h H locs hS => ?_)
  refine g_aload_n hx hb hl 0 rfl dX1_init_20 ?_
  refine lv_bipush (v := 40) hx hb dX1_init_21 (by decide) ?_
  refine g_newaG (k := 102) (atype := .boolean) hx hb hKn hRc hRs hS h (by decide) rfl (hts _ q595) dX1_init_23 (fun z23 h H locs cells slots hS => ?_)
  refine g_ptR hx hb hown hts hKn hS h fd_1_1_5 rfl (Or.inl (hts _ q602)) (fun _ z => z) (fun _ => ⟨hnm, rfl⟩) dX1_init_25 (fun G25 h H locs hS => ?_)
  refine g_aload_n hx hb hl 0 rfl dX1_init_28 ?_
  refine lv_bipush (v := 8) hx hb dX1_init_29 (by decide) ?_
  refine g_newaG (k := 100) (atype := .int) hx hb hKn hRc hRs hS h (by decide) rfl (hts _ q596) dX1_init_31 (fun z31 h H locs cells slots hS => ?_)
  refine g_ptR hx hb hown hts hKn hS h fd_1_1_6 rfl (Or.inl (hts _ q603)) (fun _ z => z) (fun _ => ⟨hnm, rfl⟩) dX1_init_33 (fun G33 h H locs hS => ?_)
  refine g_aload_n hx hb hl 0 rfl dX1_init_36 ?_
  refine lv_bipush (v := 8) hx hb dX1_init_37 (by decide) ?_
  refine g_newaG (k := 100) (atype := .int) hx hb hKn hRc hRs hS h (by decide) rfl (hts _ q596) dX1_init_39 (fun z39 h H locs cells slots hS => ?_)
  refine g_ptR hx hb hown hts hKn hS h fd_1_1_7 rfl (Or.inl (hts _ q604)) (fun _ z => z) (fun _ => ⟨hnm, rfl⟩) dX1_init_41 (fun G41 h H locs hS => ?_)
  refine g_aload_n hx hb hl 0 rfl dX1_init_44 ?_
  refine lv_bipush (v := 8) hx hb dX1_init_45 (by decide) ?_
  refine g_newaG (k := 100) (atype := .int) hx hb hKn hRc hRs hS h (by decide) rfl (hts _ q596) dX1_init_47 (fun z47 h H locs cells slots hS => ?_)
  refine g_ptR hx hb hown hts hKn hS h fd_1_1_8 rfl (Or.inl (hts _ q605)) (fun _ z => z) (fun _ => ⟨hnm, rfl⟩) dX1_init_49 (fun G49 h H locs hS => ?_)
  refine g_aload_n hx hb hl 0 rfl dX1_init_52 ?_
  refine lv_sipush (v := 700) hx hb dX1_init_53 (by decide) ?_
  refine g_newaG (k := 101) (atype := .byte) hx hb hKn hRc hRs hS h (by decide) rfl (hts _ q258) dX1_init_56 (fun z56 h H locs cells slots hS => ?_)
  refine g_ptR hx hb hown hts hKn hS h fd_1_1_9 rfl (Or.inl (hts _ q606)) (fun _ z => z) (fun _ => ⟨hnm, rfl⟩) dX1_init_58 (fun G58 h H locs hS => ?_)
  refine g_aload_n hx hb hl 0 rfl dX1_init_61 ?_
  refine lv_iconst (v := (-1)) hx hb dX1_init_62 (by decide) ?_
  refine g_ptI hx hb hown hts hKn hS h fd_1_1_11 (Or.inl (hts _ q608)) (fun _ z => z) (fun z => nomatch z) dX1_init_63 (fun G63 h H locs hS => ?_)
  refine g_aload_n hx hb hl 0 rfl dX1_init_66 ?_
  refine lv_sipush (v := 201) hx hb dX1_init_67 (by decide) ?_
  refine g_newqG (k := 121) (C := "SendHall$Life") hx hb hown hKn hRc hRs hS h (by decide) rfl (List.mem_of_getElem? (i := 1) rfl) (hts _ q526) dX1_init_70 (fun z70 h H locs cells slots hS => ?_)
  refine g_ptR hx hb hown hts hKn hS h fd_1_1_12 rfl (Or.inl (hts _ q609)) (fun _ z => z) (fun _ => ⟨hnm, rfl⟩) dX1_init_73 (fun G73 h H locs hS => ?_)
  refine g_aload_n hx hb hl 0 rfl dX1_init_76 ?_
  refine g_newG (k := 17) hx hb hown hts hKn hRc hRs hS h (by decide) (by decide) (hts _ q528) (hts _ q171) (hts _ q117) dX1_init_77 (fun z77 h H locs cells slots hS => ?_)
  refine lv_dup hx hb dX1_init_80 (by first | exact va_rf_cat _ | rfl | exact g_catA _) ?_
  refine lv_iconst (v := 2) hx hb dX1_init_81 (by decide) ?_
  obtain ⟨z82, h82, h⟩ := g_bnd h
  refine g_callI (n := 1) (av := [.inl 2]) (rs := [.inr (.inr (some z77.1)), .inr (.inr (some t))]) hx hb hml hown hts hKn hRc hRs hS hl (sJ2_init l E D h82) (lw_meth q174) (hts _ q117) (hts _ q529) (hts _ q173) rfl ⟨by decide, by decide, by decide +kernel⟩ ⟨by rw [hRf]; exact Nat.le_of_ble_eq_true rfl, by rw [hRl]; exact Nat.le_of_ble_eq_true rfl⟩ rfl rfl (Nat.le_of_ble_eq_true rfl) dX1_init_82 (fun H locs cells slots hS => ?_)
  refine g_ptR hx hb hown hts hKn hS h fd_1_1_16 rfl (Or.inl (hts _ q613)) (fun _ z => z) (fun _ => ⟨hnm, rfl⟩) dX1_init_85 (fun G85 h H locs hS => ?_)
  refine g_aload_n hx hb hl 0 rfl dX1_init_88 ?_
  refine lv_sipush (v := 320) hx hb dX1_init_89 (by decide) ?_
  refine g_newaG (k := 100) (atype := .int) hx hb hKn hRc hRs hS h (by decide) rfl (hts _ q596) dX1_init_92 (fun z92 h H locs cells slots hS => ?_)
  refine g_ptR hx hb hown hts hKn hS h fd_1_1_17 rfl (Or.inl (hts _ q614)) (fun _ z => z) (fun _ => ⟨hnm, rfl⟩) dX1_init_94 (fun G94 h H locs hS => ?_)
  refine g_aload_n hx hb hl 0 rfl dX1_init_97 ?_
  refine lv_bipush (v := 40) hx hb dX1_init_98 (by decide) ?_
  refine g_newaG (k := 102) (atype := .boolean) hx hb hKn hRc hRs hS h (by decide) rfl (hts _ q595) dX1_init_100 (fun z100 h H locs cells slots hS => ?_)
  refine g_ptR hx hb hown hts hKn hS h fd_1_1_19 rfl (Or.inl (hts _ q616)) (fun _ z => z) (fun _ => ⟨hnm, rfl⟩) dX1_init_102 (fun G102 h H locs hS => ?_)
  refine g_aload_n hx hb hl 0 rfl dX1_init_105 ?_
  refine g_newG (k := 3) hx hb hown hts hKn hRc hRs hS h (by decide) (by decide) (hts _ q526) (hts _ q530) (hts _ q134) dX1_init_106 (fun z106 h H locs cells slots hS => ?_)
  refine lv_dup hx hb dX1_init_109 (by first | exact va_rf_cat _ | rfl | exact g_catA _) ?_
  obtain ⟨z110, h110, h⟩ := g_bnd h
  refine g_callIN (n := 0) (av := []) (rs := [.inr (.inr (some z106.1)), .inr (.inr (some t))]) hx hb hml hown hts hKn hRc hRs hS hl (sX3_init l E D h110) (lw_meth q533) (hts _ q134) q531 (hts _ q532) rfl ⟨by decide, by decide, by decide +kernel⟩ ⟨by rw [hRf]; exact Nat.le_of_ble_eq_true rfl, by rw [hRl]; exact Nat.le_of_ble_eq_true rfl⟩ rfl rfl (Nat.le_of_ble_eq_true rfl) dX1_init_110 (fun H locs cells slots hS => ?_)
  refine g_ptR hx hb hown hts hKn hS h fd_1_1_20 rfl (Or.inl (hts _ q617)) (fun _ z => z) (fun _ => ⟨hnm, rfl⟩) dX1_init_113 (fun G113 h H locs hS => ?_)
  refine g_aload_n hx hb hl 0 rfl dX1_init_116 ?_
  refine lv_sipush (v := 320) hx hb dX1_init_117 (by decide) ?_
  refine g_newaG (k := 100) (atype := .int) hx hb hKn hRc hRs hS h (by decide) rfl (hts _ q596) dX1_init_120 (fun z120 h H locs cells slots hS => ?_)
  refine g_ptR hx hb hown hts hKn hS h fd_1_1_22 rfl (Or.inl (hts _ q619)) (fun _ z => z) (fun _ => ⟨hnm, rfl⟩) dX1_init_122 (fun G122 h H locs hS => ?_)
  refine g_aload_n hx hb hl 0 rfl dX1_init_125 ?_
  refine lv_bipush (v := 16) hx hb dX1_init_126 (by decide) ?_
  refine g_newaG (k := 100) (atype := .int) hx hb hKn hRc hRs hS h (by decide) rfl (hts _ q596) dX1_init_128 (fun z128 h H locs cells slots hS => ?_)
  refine g_ptR hx hb hown hts hKn hS h fd_1_1_23 rfl (Or.inl (hts _ q620)) (fun _ z => z) (fun _ => ⟨hnm, rfl⟩) dX1_init_130 (fun G130 h H locs hS => ?_)
  refine g_aload_n hx hb hl 0 rfl dX1_init_133 ?_
  refine lv_bipush (v := 8) hx hb dX1_init_134 (by decide) ?_
  refine g_newaG (k := 100) (atype := .int) hx hb hKn hRc hRs hS h (by decide) rfl (hts _ q596) dX1_init_136 (fun z136 h H locs cells slots hS => ?_)
  refine g_ptR hx hb hown hts hKn hS h fd_1_1_24 rfl (Or.inl (hts _ q621)) (fun _ z => z) (fun _ => ⟨hnm, rfl⟩) dX1_init_138 (fun G138 h H locs hS => ?_)
  refine g_aload_n hx hb hl 0 rfl dX1_init_141 ?_
  refine lv_bipush (v := 8) hx hb dX1_init_142 (by decide) ?_
  refine g_newaG (k := 100) (atype := .int) hx hb hKn hRc hRs hS h (by decide) rfl (hts _ q596) dX1_init_144 (fun z144 h H locs cells slots hS => ?_)
  refine g_ptR hx hb hown hts hKn hS h fd_1_1_28 rfl (Or.inl (hts _ q625)) (fun _ z => z) (fun _ => ⟨hnm, rfl⟩) dX1_init_146 (fun G146 h H locs hS => ?_)
  refine g_aload_n hx hb hl 0 rfl dX1_init_149 ?_
  refine lv_bipush (v := 8) hx hb dX1_init_150 (by decide) ?_
  refine g_newaG (k := 100) (atype := .int) hx hb hKn hRc hRs hS h (by decide) rfl (hts _ q596) dX1_init_152 (fun z152 h H locs cells slots hS => ?_)
  refine g_ptR hx hb hown hts hKn hS h fd_1_1_29 rfl (Or.inl (hts _ q626)) (fun _ z => z) (fun _ => ⟨hnm, rfl⟩) dX1_init_154 (fun G154 h H locs hS => ?_)
  refine g_aload_n hx hb hl 0 rfl dX1_init_157 ?_
  refine lv_sipush (v := 320) hx hb dX1_init_158 (by decide) ?_
  refine g_newaG (k := 100) (atype := .int) hx hb hKn hRc hRs hS h (by decide) rfl (hts _ q596) dX1_init_161 (fun z161 h H locs cells slots hS => ?_)
  refine g_ptR hx hb hown hts hKn hS h fd_1_1_30 rfl (Or.inl (hts _ q627)) (fun _ z => z) (fun _ => ⟨hnm, rfl⟩) dX1_init_163 (fun G163 h H locs hS => ?_)
  refine g_aload_n hx hb hl 0 rfl dX1_init_166 ?_
  refine g_newG (k := 3) hx hb hown hts hKn hRc hRs hS h (by decide) (by decide) (hts _ q526) (hts _ q530) (hts _ q134) dX1_init_167 (fun z167 h H locs cells slots hS => ?_)
  refine lv_dup hx hb dX1_init_170 (by first | exact va_rf_cat _ | rfl | exact g_catA _) ?_
  obtain ⟨z171, h171, h⟩ := g_bnd h
  refine g_callIN (n := 0) (av := []) (rs := [.inr (.inr (some z167.1)), .inr (.inr (some t))]) hx hb hml hown hts hKn hRc hRs hS hl (sX3_init l E D h171) (lw_meth q533) (hts _ q134) q531 (hts _ q532) rfl ⟨by decide, by decide, by decide +kernel⟩ ⟨by rw [hRf]; exact Nat.le_of_ble_eq_true rfl, by rw [hRl]; exact Nat.le_of_ble_eq_true rfl⟩ rfl rfl (Nat.le_of_ble_eq_true rfl) dX1_init_171 (fun H locs cells slots hS => ?_)
  refine g_ptR hx hb hown hts hKn hS h fd_1_1_32 rfl (Or.inl (hts _ q629)) (fun _ z => z) (fun _ => ⟨hnm, rfl⟩) dX1_init_174 (fun G174 h H locs hS => ?_)
  refine lv_iconst (v := 0) hx hb dX1_init_177 (by decide) ?_
  refine g_istore_n (l1 := [(1, .inl 0), (0, .inr (.inr (some t)))]) hx hb hl (by decide) rfl dX1_init_178 (fun ls hl => ?_)
  exact sX1_init_b179 C gFU _ _ _ _ h _ _ _ _ _ hS (gls_sub hl [1, 0] rfl)
/-- SendHall.left(I)Z -/
def fX1_left_b20 (E : g_E) (t : Nat) (v1 : Int32) (s0 : Int32) (G : g_G) : Option (Int32 × g_G) :=
  (fX1_there E s0 G).bind fun z20 =>
  (grR z20 1 1 (some t) 19).bind fun x24 =>
  (gaI z20 102 x24 v1).bind fun x28 =>
  if ¬ x28 = 0 then (
    if (0 : Int32) = 0 ∨ (0 : Int32) = 1 then some (0, z20) else none)
  else (
    if (1 : Int32) = 0 ∨ (1 : Int32) = 1 then some (1, z20) else none)
def fX1_left_b19 (E : g_E) (t : Nat) (v1 : Int32) (G : g_G) : Option (Int32 × g_G) :=
  fX1_left_b20 E t v1 0 G
def fX1_left (E : g_E) (t : Nat) (v1 : Int32) (G : g_G) : Option (Int32 × g_G) :=
  (gchk G 1 (some t)).bind fun b2 =>
  (fX1_isStep E b2 v1 G).bind fun z2 =>
  if z2.1 = 0 then (
    fX1_left_b19 E t v1 z2.2)
  else (
    (grI z2.2 1 1 (some t) 18).bind fun x9 =>
    if x9 = 0 then (
      fX1_left_b19 E t v1 z2.2)
    else (
      fX1_left_b20 E t v1 1 z2.2))
theorem sX1_left_b20 {p : Program} {l : Launch} {e : Env} {R : Room} {s : State} {m : MethodId} {args : Array Value} {below : List Frame} {meth : Method} {c : Code} {E : g_E} {D : g_D} (C : gC p R s m args meth c cX1_left 2 RX1 "left" (some .boolean) 3 105 E D) : ∀ (t : Nat) (v1 : Int32) (s0 : Int32) (G : g_G) (q : Int32 × g_G), fX1_left_b20 E t v1 s0 G = some q → ∀ (H : Heap) (locs : List Loc) (cells slots : Nat) (ls : Array Slot), gSt E D G H locs → gls ls 2 [(0, .inr (.inr (some t))), (1, .inl v1)] → gT p l e R s m args below meth c E D H locs cells slots (some (.int q.1)) q.2 (F0 m 20 ls [.int s0]) := by
  obtain ⟨hx, hb, hml, hown, hts, hKn, hRc, hRs, hc1, hc2, hRf, hRl, hr, hlk, hnm⟩ := id C
  intro t v1 s0 G q h H locs cells slots ls hS hl
  unfold fX1_left_b20 at h
  obtain ⟨z20, h20, h⟩ := g_bnd h
  refine g_callS (n := 1) (av := [.inl s0]) (rs := []) hx hb hml hown hts hKn hRc hRs hS hl (sX1_there l E D h20) (lw_S q1721 q1722 q113 q1723) ⟨by decide, by decide, by decide +kernel⟩ ⟨by rw [hRf]; exact Nat.le_of_ble_eq_true rfl, by rw [hRl]; exact Nat.le_of_ble_eq_true rfl⟩ rfl rfl (Nat.le_of_ble_eq_true rfl) dX1_left_20 (fun H locs cells slots hS => ?_)
  refine g_aload_n hx hb hl 0 rfl dX1_left_23 ?_
  refine g_rdR hx hb hown hts hKn hS h fd_1_1_19 rfl (Or.inl (hts _ q616)) (fun _ z => z) dX1_left_24 (fun x24 h => ?_)
  refine g_iload_n hx hb hl 1 rfl dX1_left_27 ?_
  refine g_zaloadG hx hb hKn hS h dX1_left_28 (fun x28 h => ?_)
  refine lv_if_ne (tgt := 36) hx hb dX1_left_29 (by decide) (fun c_29 => ?_) (fun c_29 => ?_)
  · have h := g_ift c_29 h
    refine lv_iconst (v := 0) hx hb dX1_left_36 (by decide) ?_
    exact g_zretG hx hb hr hlk hKn hRc hRs hS h dX1_left_37
  · have h := g_iff (fun z => z c_29) h
    refine lv_iconst (v := 1) hx hb dX1_left_32 (by decide) ?_
    refine lv_goto (tgt := 37) hx hb dX1_left_33 (by decide) ?_
    exact g_zretG hx hb hr hlk hKn hRc hRs hS h dX1_left_37
theorem sX1_left_b19 {p : Program} {l : Launch} {e : Env} {R : Room} {s : State} {m : MethodId} {args : Array Value} {below : List Frame} {meth : Method} {c : Code} {E : g_E} {D : g_D} (C : gC p R s m args meth c cX1_left 2 RX1 "left" (some .boolean) 3 105 E D) : ∀ (t : Nat) (v1 : Int32) (G : g_G) (q : Int32 × g_G), fX1_left_b19 E t v1 G = some q → ∀ (H : Heap) (locs : List Loc) (cells slots : Nat) (ls : Array Slot), gSt E D G H locs → gls ls 2 [(0, .inr (.inr (some t))), (1, .inl v1)] → gT p l e R s m args below meth c E D H locs cells slots (some (.int q.1)) q.2 (F0 m 19 ls []) := by
  obtain ⟨hx, hb, hml, hown, hts, hKn, hRc, hRs, hc1, hc2, hRf, hRl, hr, hlk, hnm⟩ := id C
  intro t v1 G q h H locs cells slots ls hS hl
  unfold fX1_left_b19 at h
  refine lv_iconst (v := 0) hx hb dX1_left_19 (by decide) ?_
  exact sX1_left_b20 C _ _ _ _ _ h _ _ _ _ _ hS (gls_sub hl [0, 1] rfl)
theorem sX1_left (l : Launch) (E : g_E) (D : g_D) {t : Nat} {v1 : Int32} {G : g_G} {q : Int32 × g_G} (h : fX1_left E t v1 G = some q) : gMet l E D yX1_left (ws_ yX1_left cX1_left 2 (some .boolean)) 3 105 [.inr (.inr (some t)), .inl v1] G (some (.int q.1)) q.2 := by
  refine gMet.of (by decide +kernel) (Nat.le_of_ble_eq_true rfl) ?_
  intro p e R s m args below meth c C hS ls hl
  have C : gC p R s m args meth c cX1_left 2 RX1 "left" (some .boolean) 3 105 E D := C
  obtain ⟨hx, hb, hml, hown, hts, hKn, hRc, hRs, hc1, hc2, hRf, hRl, hr, hlk, hnm⟩ := id C
  have hl : gls ls 2 [(0, .inr (.inr (some t))), (1, .inl v1)] := hl
  generalize s.heap = H at hS ⊢
  unfold fX1_left at h
  refine g_aload_n hx hb hl 0 rfl dX1_left_0 ?_
  refine g_iload_n hx hb hl 1 rfl dX1_left_1 ?_
  obtain ⟨b2, hb2, h⟩ := g_bnd h
  obtain ⟨hr2, hk2⟩ := g_chk hb2
  obtain ⟨z2, h2, h⟩ := g_bnd h
  refine g_callV (n := 1) (b := b2) (av := [.inl v1]) (rs := []) hx hb hml hown hts hKn hRc hRs hS hl (sX1_isStep l E D h2) (lw_V q1746 q1748 qs42 q113 q1749) ⟨rfl, by decide, by decide, by decide +kernel⟩ ⟨by rw [hRf]; exact Nat.le_of_ble_eq_true rfl, by rw [hRl]; exact Nat.le_of_ble_eq_true rfl⟩ (g_recv hKn hS hk2 (by decide) (by decide)) rfl (by rw [hr2]; rfl) (Nat.le_of_ble_eq_true rfl) dX1_left_2 (fun H locs cells slots hS => ?_)
  refine lv_if_eq (tgt := 19) hx hb dX1_left_5 (by decide) (fun c_5 => ?_) (fun c_5 => ?_)
  · have h := g_ift c_5 h
    exact sX1_left_b19 C _ _ _ _ h _ _ _ _ _ hS (gls_sub hl [0, 1] rfl)
  · have h := g_iff c_5 h
    refine g_aload_n hx hb hl 0 rfl dX1_left_8 ?_
    refine g_rdI hx hb hown hts hKn hS h fd_1_1_18 rfl (Or.inl (hts _ q615)) (fun _ z => z) dX1_left_9 (fun x9 h => ?_)
    refine lv_if_eq (tgt := 19) hx hb dX1_left_12 (by decide) (fun c_12 => ?_) (fun c_12 => ?_)
    · have h := g_ift c_12 h
      exact sX1_left_b19 C _ _ _ _ h _ _ _ _ _ hS (gls_sub hl [0, 1] rfl)
    · have h := g_iff c_12 h
      refine lv_iconst (v := 1) hx hb dX1_left_15 (by decide) ?_
      refine lv_goto (tgt := 20) hx hb dX1_left_16 (by decide) ?_
      exact sX1_left_b20 C _ _ _ _ _ h _ _ _ _ _ hS (gls_sub hl [0, 1] rfl)
/-- SendHall.ring(I)I -/
def fX1_ring_b25 (E : g_E) (t : Nat) (v1 : Int32) (s0 : Int32) (G : g_G) : Option (Int32 × g_G) :=
  (fX1_there E s0 G).bind fun z25 =>
  if ¬ v1 = (-1 : Int32) then (
    (grR z25 1 1 (some t) 24).bind fun x41 =>
    (gaI z25 100 x41 v1).bind fun x45 =>
    some (x45, z25))
  else (
    (grI z25 1 1 (some t) 27).bind fun x34 =>
    some (x34, z25))
def fX1_ring_b24 (E : g_E) (t : Nat) (v1 : Int32) (G : g_G) : Option (Int32 × g_G) :=
  fX1_ring_b25 E t v1 0 G
def fX1_ring (E : g_E) (t : Nat) (v1 : Int32) (G : g_G) : Option (Int32 × g_G) :=
  (grI G 1 1 (some t) 21).bind fun x1 =>
  if x1 = 0 then (
    fX1_ring_b24 E t v1 G)
  else (
    if v1 < (-1 : Int32) then (
      fX1_ring_b24 E t v1 G)
    else (
      (grI G 1 1 (some t) 27).bind fun x14 =>
      if x14 ≤ v1 then (
        fX1_ring_b24 E t v1 G)
      else (
        fX1_ring_b25 E t v1 1 G)))
theorem sX1_ring_b25 {p : Program} {l : Launch} {e : Env} {R : Room} {s : State} {m : MethodId} {args : Array Value} {below : List Frame} {meth : Method} {c : Code} {E : g_E} {D : g_D} (C : gC p R s m args meth c cX1_ring 2 RX1 "ring" (some .int) 2 84 E D) : ∀ (t : Nat) (v1 : Int32) (s0 : Int32) (G : g_G) (q : Int32 × g_G), fX1_ring_b25 E t v1 s0 G = some q → ∀ (H : Heap) (locs : List Loc) (cells slots : Nat) (ls : Array Slot), gSt E D G H locs → gls ls 2 [(0, .inr (.inr (some t))), (1, .inl v1)] → gT p l e R s m args below meth c E D H locs cells slots (some (.int q.1)) q.2 (F0 m 25 ls [.int s0]) := by
  obtain ⟨hx, hb, hml, hown, hts, hKn, hRc, hRs, hc1, hc2, hRf, hRl, hr, hlk, hnm⟩ := id C
  intro t v1 s0 G q h H locs cells slots ls hS hl
  unfold fX1_ring_b25 at h
  obtain ⟨z25, h25, h⟩ := g_bnd h
  refine g_callS (n := 1) (av := [.inl s0]) (rs := []) hx hb hml hown hts hKn hRc hRs hS hl (sX1_there l E D h25) (lw_S q1721 q1722 q113 q1723) ⟨by decide, by decide, by decide +kernel⟩ ⟨by rw [hRf]; exact Nat.le_of_ble_eq_true rfl, by rw [hRl]; exact Nat.le_of_ble_eq_true rfl⟩ rfl rfl (Nat.le_of_ble_eq_true rfl) dX1_ring_25 (fun H locs cells slots hS => ?_)
  refine g_iload_n hx hb hl 1 rfl dX1_ring_28 ?_
  refine lv_iconst (v := (-1)) hx hb dX1_ring_29 (by decide) ?_
  refine lv_icmp_ne (tgt := 40) hx hb dX1_ring_30 (by decide) (fun c_30 => ?_) (fun c_30 => ?_)
  · have h := g_ift c_30 h
    refine g_aload_n hx hb hl 0 rfl dX1_ring_40 ?_
    refine g_rdR hx hb hown hts hKn hS h fd_1_1_24 rfl (Or.inl (hts _ q621)) (fun _ z => z) dX1_ring_41 (fun x41 h => ?_)
    refine g_iload_n hx hb hl 1 rfl dX1_ring_44 ?_
    refine g_ialoadG hx hb hKn hS h dX1_ring_45 (fun x45 h => ?_)
    exact g_iretG hx hb hr hlk hKn hRc hRs hS h dX1_ring_46
  · have h := g_iff (fun z => z c_30) h
    refine g_aload_n hx hb hl 0 rfl dX1_ring_33 ?_
    refine g_rdI hx hb hown hts hKn hS h fd_1_1_27 rfl (Or.inl (hts _ q624)) (fun _ z => z) dX1_ring_34 (fun x34 h => ?_)
    refine lv_goto (tgt := 46) hx hb dX1_ring_37 (by decide) ?_
    exact g_iretG hx hb hr hlk hKn hRc hRs hS h dX1_ring_46
theorem sX1_ring_b24 {p : Program} {l : Launch} {e : Env} {R : Room} {s : State} {m : MethodId} {args : Array Value} {below : List Frame} {meth : Method} {c : Code} {E : g_E} {D : g_D} (C : gC p R s m args meth c cX1_ring 2 RX1 "ring" (some .int) 2 84 E D) : ∀ (t : Nat) (v1 : Int32) (G : g_G) (q : Int32 × g_G), fX1_ring_b24 E t v1 G = some q → ∀ (H : Heap) (locs : List Loc) (cells slots : Nat) (ls : Array Slot), gSt E D G H locs → gls ls 2 [(0, .inr (.inr (some t))), (1, .inl v1)] → gT p l e R s m args below meth c E D H locs cells slots (some (.int q.1)) q.2 (F0 m 24 ls []) := by
  obtain ⟨hx, hb, hml, hown, hts, hKn, hRc, hRs, hc1, hc2, hRf, hRl, hr, hlk, hnm⟩ := id C
  intro t v1 G q h H locs cells slots ls hS hl
  unfold fX1_ring_b24 at h
  refine lv_iconst (v := 0) hx hb dX1_ring_24 (by decide) ?_
  exact sX1_ring_b25 C _ _ _ _ _ h _ _ _ _ _ hS (gls_sub hl [0, 1] rfl)
theorem sX1_ring (l : Launch) (E : g_E) (D : g_D) {t : Nat} {v1 : Int32} {G : g_G} {q : Int32 × g_G} (h : fX1_ring E t v1 G = some q) : gMet l E D yX1_ring (ws_ yX1_ring cX1_ring 2 (some .int)) 2 84 [.inr (.inr (some t)), .inl v1] G (some (.int q.1)) q.2 := by
  refine gMet.of (by decide +kernel) (Nat.le_of_ble_eq_true rfl) ?_
  intro p e R s m args below meth c C hS ls hl
  have C : gC p R s m args meth c cX1_ring 2 RX1 "ring" (some .int) 2 84 E D := C
  obtain ⟨hx, hb, hml, hown, hts, hKn, hRc, hRs, hc1, hc2, hRf, hRl, hr, hlk, hnm⟩ := id C
  have hl : gls ls 2 [(0, .inr (.inr (some t))), (1, .inl v1)] := hl
  generalize s.heap = H at hS ⊢
  unfold fX1_ring at h
  refine g_aload_n hx hb hl 0 rfl dX1_ring_0 ?_
  refine g_rdI hx hb hown hts hKn hS h fd_1_1_21 rfl (Or.inl (hts _ q618)) (fun _ z => z) dX1_ring_1 (fun x1 h => ?_)
  refine lv_if_eq (tgt := 24) hx hb dX1_ring_4 (by decide) (fun c_4 => ?_) (fun c_4 => ?_)
  · have h := g_ift c_4 h
    exact sX1_ring_b24 C _ _ _ _ h _ _ _ _ _ hS (gls_sub hl [0, 1] rfl)
  · have h := g_iff c_4 h
    refine g_iload_n hx hb hl 1 rfl dX1_ring_7 ?_
    refine lv_iconst (v := (-1)) hx hb dX1_ring_8 (by decide) ?_
    refine lv_icmp_lt (tgt := 24) hx hb dX1_ring_9 (by decide) (fun c_9 => ?_) (fun c_9 => ?_)
    · have h := g_ift c_9 h
      exact sX1_ring_b24 C _ _ _ _ h _ _ _ _ _ hS (gls_sub hl [0, 1] rfl)
    · have h := g_iff c_9 h
      refine g_iload_n hx hb hl 1 rfl dX1_ring_12 ?_
      refine g_aload_n hx hb hl 0 rfl dX1_ring_13 ?_
      refine g_rdI hx hb hown hts hKn hS h fd_1_1_27 rfl (Or.inl (hts _ q624)) (fun _ z => z) dX1_ring_14 (fun x14 h => ?_)
      refine lv_icmp_ge (tgt := 24) hx hb dX1_ring_17 (by decide) (fun c_17 => ?_) (fun c_17 => ?_)
      · have h := g_ift c_17 h
        exact sX1_ring_b24 C _ _ _ _ h _ _ _ _ _ hS (gls_sub hl [0, 1] rfl)
      · have h := g_iff c_17 h
        refine lv_iconst (v := 1) hx hb dX1_ring_20 (by decide) ?_
        refine lv_goto (tgt := 25) hx hb dX1_ring_21 (by decide) ?_
        exact sX1_ring_b25 C _ _ _ _ _ h _ _ _ _ _ hS (gls_sub hl [0, 1] rfl)
/-- SendHall.step(I)I -/
def fX1_step (E : g_E) (t : Nat) (v1 : Int32) (G : g_G) : Option (Int32 × g_G) :=
  (gchk G 1 (some t)).bind fun b2 =>
  (fX1_isStep E b2 v1 G).bind fun z2 =>
  (fX1_there E z2.1 z2.2).bind fun z5 =>
  (grR z5 1 1 (some t) 4).bind fun x9 =>
  (grR z5 2 2 x9 0).bind fun x12 =>
  (gchk z5 17 x12).bind fun b16 =>
  (fJ2_get E b16 v1 z5).bind fun z16 =>
  (gcast z16.2 11 16 z16.1).bind fun x19 =>
  (grI z16.2 11 16 x19 0).bind fun x22 =>
  some (x22, z16.2)
theorem sX1_step (l : Launch) (E : g_E) (D : g_D) {t : Nat} {v1 : Int32} {G : g_G} {q : Int32 × g_G} (h : fX1_step E t v1 G = some q) : gMet l E D yX1_step (ws_ yX1_step cX1_step 2 (some .int)) 4 128 [.inr (.inr (some t)), .inl v1] G (some (.int q.1)) q.2 := by
  refine gMet.of (by decide +kernel) (Nat.le_of_ble_eq_true rfl) ?_
  intro p e R s m args below meth c C hS ls hl
  have C : gC p R s m args meth c cX1_step 2 RX1 "step" (some .int) 4 128 E D := C
  obtain ⟨hx, hb, hml, hown, hts, hKn, hRc, hRs, hc1, hc2, hRf, hRl, hr, hlk, hnm⟩ := id C
  have hl : gls ls 2 [(0, .inr (.inr (some t))), (1, .inl v1)] := hl
  generalize s.heap = H at hS ⊢
  unfold fX1_step at h
  refine g_aload_n hx hb hl 0 rfl dX1_step_0 ?_
  refine g_iload_n hx hb hl 1 rfl dX1_step_1 ?_
  obtain ⟨b2, hb2, h⟩ := g_bnd h
  obtain ⟨hr2, hk2⟩ := g_chk hb2
  obtain ⟨z2, h2, h⟩ := g_bnd h
  refine g_callV (n := 1) (b := b2) (av := [.inl v1]) (rs := []) hx hb hml hown hts hKn hRc hRs hS hl (sX1_isStep l E D h2) (lw_V q1746 q1748 qs42 q113 q1749) ⟨rfl, by decide, by decide, by decide +kernel⟩ ⟨by rw [hRf]; exact Nat.le_of_ble_eq_true rfl, by rw [hRl]; exact Nat.le_of_ble_eq_true rfl⟩ (g_recv hKn hS hk2 (by decide) (by decide)) rfl (by rw [hr2]; rfl) (Nat.le_of_ble_eq_true rfl) dX1_step_2 (fun H locs cells slots hS => ?_)
  obtain ⟨z5, h5, h⟩ := g_bnd h
  refine g_callS (n := 1) (av := [.inl z2.1]) (rs := []) hx hb hml hown hts hKn hRc hRs hS hl (sX1_there l E D h5) (lw_S q1721 q1722 q113 q1723) ⟨by decide, by decide, by decide +kernel⟩ ⟨by rw [hRf]; exact Nat.le_of_ble_eq_true rfl, by rw [hRl]; exact Nat.le_of_ble_eq_true rfl⟩ rfl rfl (Nat.le_of_ble_eq_true rfl) dX1_step_5 (fun H locs cells slots hS => ?_)
  refine g_aload_n hx hb hl 0 rfl dX1_step_8 ?_
  refine g_rdR hx hb hown hts hKn hS h fd_1_1_4 rfl (Or.inl (hts _ q601)) (fun _ z => z) dX1_step_9 (fun x9 h => ?_)
  refine g_rdR hx hb hown hts hKn hS h fd_2_2_0 rfl (Or.inr ⟨_, gNest_use rfl (hKn.2.2.2.2.1 _ (gNest_in q514 rfl))⟩) (fun _ z => z) dX1_step_12 (fun x12 h => ?_)
  refine g_iload_n hx hb hl 1 rfl dX1_step_15 ?_
  obtain ⟨b16, hb16, h⟩ := g_bnd h
  obtain ⟨hr16, hk16⟩ := g_chk hb16
  obtain ⟨z16, h16, h⟩ := g_bnd h
  refine g_callV (n := 1) (b := b16) (av := [.inl v1]) (rs := []) hx hb hml hown hts hKn hRc hRs hS hl (sJ2_get l E D h16) (lw_V q996 q759 q760 q117 q761) ⟨rfl, by decide, by decide, by decide +kernel⟩ ⟨by rw [hRf]; exact Nat.le_of_ble_eq_true rfl, by rw [hRl]; exact Nat.le_of_ble_eq_true rfl⟩ (g_recv hKn hS hk16 (by decide) (by decide)) rfl (by rw [hr16]; rfl) (Nat.le_of_ble_eq_true rfl) dX1_step_16 (fun H locs cells slots hS => ?_)
  refine g_castY (lo := 11) (hi := 16) (C := "SendHall$Step") hx hb hown hKn hS h (by decide) (by decide) (hts _ q1083) ct_11_16 dX1_step_19 (fun x19 h => ?_)
  refine g_rdI hx hb hown hts hKn hS h fd_11_16_0 rfl (Or.inl (hts _ q1422)) (fun _ z => z) dX1_step_22 (fun x22 h => ?_)
  exact g_iretG hx hb hr hlk hKn hRc hRs hS h dX1_step_25
/-- SendHall$Life.bits()I -/
def fX3_bits_b26 (E : g_E) (k4 : Nat → Int32 → Int32 → g_G → Option (Int32 × g_G)) (t : Nat) (v1 : Int32) (v2 : Int32) (G : g_G) : Option (Int32 × g_G) :=
  k4 t v1 (v2 + 1) G
def fX3_bits_b4 (E : g_E) : Nat → Nat → Int32 → Int32 → g_G → Option (Int32 × g_G)
  | 0, _, _, _, _ => none
  | n + 1, t, v1, v2, G =>
    (grI G 3 3 (some t) 0).bind fun x6 =>
    if x6 ≤ v2 then (
      some (v1, G))
    else (
      (gchk G 3 (some t)).bind fun b14 =>
      (fX3_hasEnded E b14 v2 G).bind fun z14 =>
      if ¬ z14.1 = 0 then (
        fX3_bits_b26 E (fX3_bits_b4 E n) t v1 v2 z14.2)
      else (
        fX3_bits_b26 E (fX3_bits_b4 E n) t (v1 ||| (1 <<< (v2 &&& 31))) v2 z14.2))
def fX3_bits (E : g_E) (t : Nat) (G : g_G) : Option (Int32 × g_G) :=
  fX3_bits_b4 E gFU t 0 0 G
theorem sX3_bits_b26 {p : Program} {l : Launch} {e : Env} {R : Room} {s : State} {m : MethodId} {args : Array Value} {below : List Frame} {meth : Method} {c : Code} {E : g_E} {D : g_D} (C : gC p R s m args meth c cX3_bits 3 RX3 "bits" (some .int) 2 85 E D) {k4 : Nat → Int32 → Int32 → g_G → Option (Int32 × g_G)} (hk4 : ∀ (t : Nat) (v1 : Int32) (v2 : Int32) (G : g_G) (q : Int32 × g_G), k4 t v1 v2 G = some q → ∀ (H : Heap) (locs : List Loc) (cells slots : Nat) (ls : Array Slot), gSt E D G H locs → gls ls 3 [(0, .inr (.inr (some t))), (1, .inl v1), (2, .inl v2)] → gT p l e R s m args below meth c E D H locs cells slots (some (.int q.1)) q.2 (F0 m 4 ls [])) : ∀ (t : Nat) (v1 : Int32) (v2 : Int32) (G : g_G) (q : Int32 × g_G), fX3_bits_b26 E k4 t v1 v2 G = some q → ∀ (H : Heap) (locs : List Loc) (cells slots : Nat) (ls : Array Slot), gSt E D G H locs → gls ls 3 [(0, .inr (.inr (some t))), (1, .inl v1), (2, .inl v2)] → gT p l e R s m args below meth c E D H locs cells slots (some (.int q.1)) q.2 (F0 m 26 ls []) := by
  obtain ⟨hx, hb, hml, hown, hts, hKn, hRc, hRs, hc1, hc2, hRf, hRl, hr, hlk, hnm⟩ := id C
  intro t v1 v2 G q h H locs cells slots ls hS hl
  unfold fX3_bits_b26 at h
  refine g_iinc (l1 := [(2, .inl (v2 + 1)), (0, .inr (.inr (some t))), (1, .inl v1)]) (v := (v2 + 1)) hx hb hl (k := 2) rfl (by rfl) (by decide) rfl dX3_bits_26 (fun ls hl => ?_)
  refine lv_goto (tgt := 4) hx hb dX3_bits_29 (by decide) ?_
  exact hk4 _ _ _ _ _ h _ _ _ _ _ hS (gls_sub hl [1, 2, 0] rfl)
theorem sX3_bits_b4 {p : Program} {l : Launch} {e : Env} {R : Room} {s : State} {m : MethodId} {args : Array Value} {below : List Frame} {meth : Method} {c : Code} {E : g_E} {D : g_D} (C : gC p R s m args meth c cX3_bits 3 RX3 "bits" (some .int) 2 85 E D) : ∀ (n : Nat) (t : Nat) (v1 : Int32) (v2 : Int32) (G : g_G) (q : Int32 × g_G), fX3_bits_b4 E n t v1 v2 G = some q → ∀ (H : Heap) (locs : List Loc) (cells slots : Nat) (ls : Array Slot), gSt E D G H locs → gls ls 3 [(0, .inr (.inr (some t))), (1, .inl v1), (2, .inl v2)] → gT p l e R s m args below meth c E D H locs cells slots (some (.int q.1)) q.2 (F0 m 4 ls []) := by
  obtain ⟨hx, hb, hml, hown, hts, hKn, hRc, hRs, hc1, hc2, hRf, hRl, hr, hlk, hnm⟩ := id C
  intro n
  induction n with
  | zero =>
    intro t v1 v2 G q h
    exact g_no h
  | succ n ih =>
    intro t v1 v2 G q h H locs cells slots ls hS hl
    rw [fX3_bits_b4] at h
    refine g_iload_n hx hb hl 2 rfl dX3_bits_4 ?_
    refine g_aload_n hx hb hl 0 rfl dX3_bits_5 ?_
    refine g_rdI hx hb hown hts hKn hS h fd_3_3_0 rfl (Or.inl (hts _ q538)) (fun _ z => z) dX3_bits_6 (fun x6 h => ?_)
    refine lv_icmp_ge (tgt := 32) hx hb dX3_bits_9 (by decide) (fun c_9 => ?_) (fun c_9 => ?_)
    · have h := g_ift c_9 h
      refine g_iload_n hx hb hl 1 rfl dX3_bits_32 ?_
      exact g_iretG hx hb hr hlk hKn hRc hRs hS h dX3_bits_33
    · have h := g_iff c_9 h
      refine g_aload_n hx hb hl 0 rfl dX3_bits_12 ?_
      refine g_iload_n hx hb hl 2 rfl dX3_bits_13 ?_
      obtain ⟨b14, hb14, h⟩ := g_bnd h
      obtain ⟨hr14, hk14⟩ := g_chk hb14
      obtain ⟨z14, h14, h⟩ := g_bnd h
      refine g_callV (n := 1) (b := b14) (av := [.inl v2]) (rs := []) hx hb hml hown hts hKn hRc hRs hS hl (sX3_hasEnded l E D h14) (lw_V q993 q849 q850 q134 q851) ⟨rfl, by decide, by decide, by decide +kernel⟩ ⟨by rw [hRf]; exact Nat.le_of_ble_eq_true rfl, by rw [hRl]; exact Nat.le_of_ble_eq_true rfl⟩ (g_recv hKn hS hk14 (by decide) (by decide)) rfl (by rw [hr14]; rfl) (Nat.le_of_ble_eq_true rfl) dX3_bits_14 (fun H locs cells slots hS => ?_)
      refine lv_if_ne (tgt := 26) hx hb dX3_bits_17 (by decide) (fun c_17 => ?_) (fun c_17 => ?_)
      · have h := g_ift c_17 h
        exact sX3_bits_b26 C ih _ _ _ _ _ h _ _ _ _ _ hS (gls_sub hl [0, 1, 2] rfl)
      · have h := g_iff (fun z => z c_17) h
        refine g_iload_n hx hb hl 1 rfl dX3_bits_20 ?_
        refine lv_iconst (v := 1) hx hb dX3_bits_21 (by decide) ?_
        refine g_iload_n hx hb hl 2 rfl dX3_bits_22 ?_
        refine lv_ishl hx hb dX3_bits_23 ?_
        refine lv_ior hx hb dX3_bits_24 ?_
        refine g_istore_n (l1 := [(1, .inl (v1 ||| (1 <<< (v2 &&& 31)))), (0, .inr (.inr (some t))), (2, .inl v2)]) hx hb hl (by decide) rfl dX3_bits_25 (fun ls hl => ?_)
        exact sX3_bits_b26 C ih _ _ _ _ _ h _ _ _ _ _ hS (gls_sub hl [1, 0, 2] rfl)
theorem sX3_bits (l : Launch) (E : g_E) (D : g_D) {t : Nat} {G : g_G} {q : Int32 × g_G} (h : fX3_bits E t G = some q) : gMet l E D yX3_bits (ws_ yX3_bits cX3_bits 3 (some .int)) 2 85 [.inr (.inr (some t))] G (some (.int q.1)) q.2 := by
  refine gMet.of (by decide +kernel) (Nat.le_of_ble_eq_true rfl) ?_
  intro p e R s m args below meth c C hS ls hl
  have C : gC p R s m args meth c cX3_bits 3 RX3 "bits" (some .int) 2 85 E D := C
  obtain ⟨hx, hb, hml, hown, hts, hKn, hRc, hRs, hc1, hc2, hRf, hRl, hr, hlk, hnm⟩ := id C
  have hl : gls ls 3 [(0, .inr (.inr (some t)))] := hl
  generalize s.heap = H at hS ⊢
  unfold fX3_bits at h
  refine lv_iconst (v := 0) hx hb dX3_bits_0 (by decide) ?_
  refine g_istore_n (l1 := [(1, .inl 0), (0, .inr (.inr (some t)))]) hx hb hl (by decide) rfl dX3_bits_1 (fun ls hl => ?_)
  refine lv_iconst (v := 0) hx hb dX3_bits_2 (by decide) ?_
  refine g_istore_n (l1 := [(2, .inl 0), (1, .inl 0), (0, .inr (.inr (some t)))]) hx hb hl (by decide) rfl dX3_bits_3 (fun ls hl => ?_)
  exact sX3_bits_b4 C gFU _ _ _ _ _ h _ _ _ _ _ hS (gls_sub hl [2, 1, 0] rfl)
/-- SendHall$Life.copy(LSendHall$Life;)V -/
def fX3_copy_b115 (E : g_E) : Nat → Nat → (Option Nat) → Int32 → g_G → Option (g_G)
  | 0, _, _, _, _ => none
  | n + 1, t, v1, v2, G =>
    (grI G 3 3 (some t) 1).bind fun x117 =>
    if x117 ≤ v2 then (
      some G)
    else (
      (gchk G 3 (some t)).bind fun b127 =>
      (fX3_put E b127 v2 v1 v2 G).bind fun z127 =>
      fX3_copy_b115 E n t v1 (v2 + 1) z127)
def fX3_copy_b76 (E : g_E) (k18 : Nat → (Option Nat) → Int32 → g_G → Option (g_G)) : Nat → Nat → (Option Nat) → Int32 → Int32 → g_G → Option (g_G)
  | 0, _, _, _, _, _ => none
  | n + 1, t, v1, v2, v3, G =>
    if (4 : Int32) ≤ v3 then (
      k18 t v1 (v2 + 1) G)
    else (
      (grR G 3 3 (some t) 5).bind fun x82 =>
      (grR G 3 3 v1 5).bind fun x91 =>
      (gaI G 100 x91 ((4 * v2) + v3)).bind fun x99 =>
      (gsaI E G x82 ((4 * v2) + v3) x99).bind fun G100 =>
      fX3_copy_b76 E k18 n t v1 v2 (v3 + 1) G100)
def fX3_copy_b18 (E : g_E) : Nat → Nat → (Option Nat) → Int32 → g_G → Option (g_G)
  | 0, _, _, _, _ => none
  | n + 1, t, v1, v2, G =>
    (grI G 3 3 (some t) 0).bind fun x20 =>
    if x20 ≤ v2 then (
      fX3_copy_b115 E gFU t v1 0 G)
    else (
      (grR G 3 3 (some t) 3).bind fun x27 =>
      (grR G 3 3 v1 3).bind fun x32 =>
      (gaR G 122 x32 v2).bind fun x36 =>
      (gsaR E G 122 x27 v2 x36).bind fun G37 =>
      (grR G37 3 3 (some t) 4).bind fun x39 =>
      (grR G37 3 3 v1 4).bind fun x44 =>
      (gaI G37 102 x44 v2).bind fun x48 =>
      (gsaZ E G37 x39 v2 x48).bind fun G49 =>
      (grR G49 3 3 (some t) 6).bind fun x51 =>
      (grR G49 3 3 v1 6).bind fun x56 =>
      (gaI G49 100 x56 v2).bind fun x60 =>
      (gsaI E G49 x51 v2 x60).bind fun G61 =>
      (grR G61 3 3 (some t) 7).bind fun x63 =>
      (grR G61 3 3 v1 7).bind fun x68 =>
      (gaI G61 100 x68 v2).bind fun x72 =>
      (gsaI E G61 x63 v2 x72).bind fun G73 =>
      fX3_copy_b76 E (fX3_copy_b18 E n) gFU t v1 v2 0 G73)
def fX3_copy (E : g_E) (t : Nat) (v1 : Option Nat) (G : g_G) : Option (g_G) :=
  (grI G 3 3 v1 0).bind fun x2 =>
  (gpI E G 3 3 (some t) 0 x2).bind fun G5 =>
  (grI G5 3 3 v1 1).bind fun x10 =>
  (gpI E G5 3 3 (some t) 1 x10).bind fun G13 =>
  fX3_copy_b18 E gFU t v1 0 G13
theorem sX3_copy_b115 {p : Program} {l : Launch} {e : Env} {R : Room} {s : State} {m : MethodId} {args : Array Value} {below : List Frame} {meth : Method} {c : Code} {E : g_E} {D : g_D} (C : gC p R s m args meth c cX3_copy 4 RX3 "copy" (none) 2 87 E D) : ∀ (n : Nat) (t : Nat) (v1 : Option Nat) (v2 : Int32) (G : g_G) (q : g_G), fX3_copy_b115 E n t v1 v2 G = some q → ∀ (H : Heap) (locs : List Loc) (cells slots : Nat) (ls : Array Slot), gSt E D G H locs → gls ls 4 [(0, .inr (.inr (some t))), (1, .inr (.inr v1)), (2, .inl v2)] → gT p l e R s m args below meth c E D H locs cells slots none q (F0 m 115 ls []) := by
  obtain ⟨hx, hb, hml, hown, hts, hKn, hRc, hRs, hc1, hc2, hRf, hRl, hr, hlk, hnm⟩ := id C
  intro n
  induction n with
  | zero =>
    intro t v1 v2 G q h
    exact g_no h
  | succ n ih =>
    intro t v1 v2 G q h H locs cells slots ls hS hl
    rw [fX3_copy_b115] at h
    refine g_iload_n hx hb hl 2 rfl dX3_copy_115 ?_
    refine g_aload_n hx hb hl 0 rfl dX3_copy_116 ?_
    refine g_rdI hx hb hown hts hKn hS h fd_3_3_1 rfl (Or.inl (hts _ q542)) (fun _ z => z) dX3_copy_117 (fun x117 h => ?_)
    refine lv_icmp_ge (tgt := 136) hx hb dX3_copy_120 (by decide) (fun c_120 => ?_) (fun c_120 => ?_)
    · have h := g_ift c_120 h
      exact g_vretG hx hb hr hlk hKn hRc hRs hS h dX3_copy_136
    · have h := g_iff c_120 h
      refine g_aload_n hx hb hl 0 rfl dX3_copy_123 ?_
      refine g_iload_n hx hb hl 2 rfl dX3_copy_124 ?_
      refine g_aload_n hx hb hl 1 rfl dX3_copy_125 ?_
      refine g_iload_n hx hb hl 2 rfl dX3_copy_126 ?_
      obtain ⟨b127, hb127, h⟩ := g_bnd h
      obtain ⟨hr127, hk127⟩ := g_chk hb127
      obtain ⟨z127, h127, h⟩ := g_bnd h
      refine g_callV (n := 3) (b := b127) (av := [.inl v2, .inr (.inr v1), .inl v2]) (rs := []) hx hb hml hown hts hKn hRc hRs hS hl (sX3_put l E D h127) (lw_V q907 q909 qs11 q134 q910) ⟨rfl, by decide, by decide, by decide +kernel⟩ ⟨by rw [hRf]; exact Nat.le_of_ble_eq_true rfl, by rw [hRl]; exact Nat.le_of_ble_eq_true rfl⟩ (g_recv hKn hS hk127 (by decide) (by decide)) rfl (by rw [hr127]; rfl) (Nat.le_of_ble_eq_true rfl) dX3_copy_127 (fun H locs cells slots hS => ?_)
      refine g_iinc (l1 := [(2, .inl (v2 + 1)), (0, .inr (.inr (some t))), (1, .inr (.inr v1))]) (v := (v2 + 1)) hx hb hl (k := 2) rfl (by rfl) (by decide) rfl dX3_copy_130 (fun ls hl => ?_)
      refine lv_goto (tgt := 115) hx hb dX3_copy_133 (by decide) ?_
      exact ih _ _ _ _ _ h _ _ _ _ _ hS (gls_sub hl [1, 2, 0] rfl)
theorem sX3_copy_b76 {p : Program} {l : Launch} {e : Env} {R : Room} {s : State} {m : MethodId} {args : Array Value} {below : List Frame} {meth : Method} {c : Code} {E : g_E} {D : g_D} (C : gC p R s m args meth c cX3_copy 4 RX3 "copy" (none) 2 87 E D) {k18 : Nat → (Option Nat) → Int32 → g_G → Option (g_G)} (hk18 : ∀ (t : Nat) (v1 : Option Nat) (v2 : Int32) (G : g_G) (q : g_G), k18 t v1 v2 G = some q → ∀ (H : Heap) (locs : List Loc) (cells slots : Nat) (ls : Array Slot), gSt E D G H locs → gls ls 4 [(0, .inr (.inr (some t))), (1, .inr (.inr v1)), (2, .inl v2)] → gT p l e R s m args below meth c E D H locs cells slots none q (F0 m 18 ls [])) : ∀ (n : Nat) (t : Nat) (v1 : Option Nat) (v2 : Int32) (v3 : Int32) (G : g_G) (q : g_G), fX3_copy_b76 E k18 n t v1 v2 v3 G = some q → ∀ (H : Heap) (locs : List Loc) (cells slots : Nat) (ls : Array Slot), gSt E D G H locs → gls ls 4 [(0, .inr (.inr (some t))), (1, .inr (.inr v1)), (2, .inl v2), (3, .inl v3)] → gT p l e R s m args below meth c E D H locs cells slots none q (F0 m 76 ls []) := by
  obtain ⟨hx, hb, hml, hown, hts, hKn, hRc, hRs, hc1, hc2, hRf, hRl, hr, hlk, hnm⟩ := id C
  intro n
  induction n with
  | zero =>
    intro t v1 v2 v3 G q h
    exact g_no h
  | succ n ih =>
    intro t v1 v2 v3 G q h H locs cells slots ls hS hl
    rw [fX3_copy_b76] at h
    refine g_iload_n hx hb hl 3 rfl dX3_copy_76 ?_
    refine lv_iconst (v := 4) hx hb dX3_copy_77 (by decide) ?_
    refine lv_icmp_ge (tgt := 107) hx hb dX3_copy_78 (by decide) (fun c_78 => ?_) (fun c_78 => ?_)
    · have h := g_ift c_78 h
      refine g_iinc (l1 := [(2, .inl (v2 + 1)), (0, .inr (.inr (some t))), (1, .inr (.inr v1)), (3, .inl v3)]) (v := (v2 + 1)) hx hb hl (k := 2) rfl (by rfl) (by decide) rfl dX3_copy_107 (fun ls hl => ?_)
      refine lv_goto (tgt := 18) hx hb dX3_copy_110 (by decide) ?_
      exact hk18 _ _ _ _ _ h _ _ _ _ _ hS (gls_sub hl [1, 2, 0] rfl)
    · have h := g_iff c_78 h
      refine g_aload_n hx hb hl 0 rfl dX3_copy_81 ?_
      refine g_rdR hx hb hown hts hKn hS h fd_3_3_5 rfl (Or.inl (hts _ q550)) (fun _ z => z) dX3_copy_82 (fun x82 h => ?_)
      refine lv_iconst (v := 4) hx hb dX3_copy_85 (by decide) ?_
      refine g_iload_n hx hb hl 2 rfl dX3_copy_86 ?_
      refine lv_imul hx hb dX3_copy_87 ?_
      refine g_iload_n hx hb hl 3 rfl dX3_copy_88 ?_
      refine lv_iadd hx hb dX3_copy_89 ?_
      refine g_aload_n hx hb hl 1 rfl dX3_copy_90 ?_
      refine g_rdR hx hb hown hts hKn hS h fd_3_3_5 rfl (Or.inl (hts _ q550)) (fun _ z => z) dX3_copy_91 (fun x91 h => ?_)
      refine lv_iconst (v := 4) hx hb dX3_copy_94 (by decide) ?_
      refine g_iload_n hx hb hl 2 rfl dX3_copy_95 ?_
      refine lv_imul hx hb dX3_copy_96 ?_
      refine g_iload_n hx hb hl 3 rfl dX3_copy_97 ?_
      refine lv_iadd hx hb dX3_copy_98 ?_
      refine g_ialoadG hx hb hKn hS h dX3_copy_99 (fun x99 h => ?_)
      refine g_iastoreG hx hb hKn hS h dX3_copy_100 (fun G100 h H locs hS => ?_)
      refine g_iinc (l1 := [(3, .inl (v3 + 1)), (0, .inr (.inr (some t))), (1, .inr (.inr v1)), (2, .inl v2)]) (v := (v3 + 1)) hx hb hl (k := 3) rfl (by rfl) (by decide) rfl dX3_copy_101 (fun ls hl => ?_)
      refine lv_goto (tgt := 76) hx hb dX3_copy_104 (by decide) ?_
      exact ih _ _ _ _ _ _ h _ _ _ _ _ hS (gls_sub hl [1, 2, 3, 0] rfl)
theorem sX3_copy_b18 {p : Program} {l : Launch} {e : Env} {R : Room} {s : State} {m : MethodId} {args : Array Value} {below : List Frame} {meth : Method} {c : Code} {E : g_E} {D : g_D} (C : gC p R s m args meth c cX3_copy 4 RX3 "copy" (none) 2 87 E D) : ∀ (n : Nat) (t : Nat) (v1 : Option Nat) (v2 : Int32) (G : g_G) (q : g_G), fX3_copy_b18 E n t v1 v2 G = some q → ∀ (H : Heap) (locs : List Loc) (cells slots : Nat) (ls : Array Slot), gSt E D G H locs → gls ls 4 [(0, .inr (.inr (some t))), (1, .inr (.inr v1)), (2, .inl v2)] → gT p l e R s m args below meth c E D H locs cells slots none q (F0 m 18 ls []) := by
  obtain ⟨hx, hb, hml, hown, hts, hKn, hRc, hRs, hc1, hc2, hRf, hRl, hr, hlk, hnm⟩ := id C
  intro n
  induction n with
  | zero =>
    intro t v1 v2 G q h
    exact g_no h
  | succ n ih =>
    intro t v1 v2 G q h H locs cells slots ls hS hl
    rw [fX3_copy_b18] at h
    refine g_iload_n hx hb hl 2 rfl dX3_copy_18 ?_
    refine g_aload_n hx hb hl 0 rfl dX3_copy_19 ?_
    refine g_rdI hx hb hown hts hKn hS h fd_3_3_0 rfl (Or.inl (hts _ q538)) (fun _ z => z) dX3_copy_20 (fun x20 h => ?_)
    refine lv_icmp_ge (tgt := 113) hx hb dX3_copy_23 (by decide) (fun c_23 => ?_) (fun c_23 => ?_)
    · have h := g_ift c_23 h
      refine lv_iconst (v := 0) hx hb dX3_copy_113 (by decide) ?_
      refine g_istore_n (l1 := [(2, .inl 0), (0, .inr (.inr (some t))), (1, .inr (.inr v1))]) hx hb hl (by decide) rfl dX3_copy_114 (fun ls hl => ?_)
      exact sX3_copy_b115 C gFU _ _ _ _ _ h _ _ _ _ _ hS (gls_sub hl [1, 2, 0] rfl)
    · have h := g_iff c_23 h
      refine g_aload_n hx hb hl 0 rfl dX3_copy_26 ?_
      refine g_rdR hx hb hown hts hKn hS h fd_3_3_3 rfl (Or.inl (hts _ q544)) (fun _ z => z) dX3_copy_27 (fun x27 h => ?_)
      refine g_iload_n hx hb hl 2 rfl dX3_copy_30 ?_
      refine g_aload_n hx hb hl 1 rfl dX3_copy_31 ?_
      refine g_rdR hx hb hown hts hKn hS h fd_3_3_3 rfl (Or.inl (hts _ q544)) (fun _ z => z) dX3_copy_32 (fun x32 h => ?_)
      refine g_iload_n hx hb hl 2 rfl dX3_copy_35 ?_
      refine g_aaloadG hx hb hKn hS h (by decide) dX3_copy_36 (fun x36 h => ?_)
      refine g_aastoreG hx hb hKn hS h (by decide) dX3_copy_37 (fun G37 h H locs hS => ?_)
      refine g_aload_n hx hb hl 0 rfl dX3_copy_38 ?_
      refine g_rdR hx hb hown hts hKn hS h fd_3_3_4 rfl (Or.inl (hts _ q546)) (fun _ z => z) dX3_copy_39 (fun x39 h => ?_)
      refine g_iload_n hx hb hl 2 rfl dX3_copy_42 ?_
      refine g_aload_n hx hb hl 1 rfl dX3_copy_43 ?_
      refine g_rdR hx hb hown hts hKn hS h fd_3_3_4 rfl (Or.inl (hts _ q546)) (fun _ z => z) dX3_copy_44 (fun x44 h => ?_)
      refine g_iload_n hx hb hl 2 rfl dX3_copy_47 ?_
      refine g_zaloadG hx hb hKn hS h dX3_copy_48 (fun x48 h => ?_)
      refine g_zastoreG hx hb hKn hS h dX3_copy_49 (fun G49 h H locs hS => ?_)
      refine g_aload_n hx hb hl 0 rfl dX3_copy_50 ?_
      refine g_rdR hx hb hown hts hKn hS h fd_3_3_6 rfl (Or.inl (hts _ q554)) (fun _ z => z) dX3_copy_51 (fun x51 h => ?_)
      refine g_iload_n hx hb hl 2 rfl dX3_copy_54 ?_
      refine g_aload_n hx hb hl 1 rfl dX3_copy_55 ?_
      refine g_rdR hx hb hown hts hKn hS h fd_3_3_6 rfl (Or.inl (hts _ q554)) (fun _ z => z) dX3_copy_56 (fun x56 h => ?_)
      refine g_iload_n hx hb hl 2 rfl dX3_copy_59 ?_
      refine g_ialoadG hx hb hKn hS h dX3_copy_60 (fun x60 h => ?_)
      refine g_iastoreG hx hb hKn hS h dX3_copy_61 (fun G61 h H locs hS => ?_)
      refine g_aload_n hx hb hl 0 rfl dX3_copy_62 ?_
      refine g_rdR hx hb hown hts hKn hS h fd_3_3_7 rfl (Or.inl (hts _ q557)) (fun _ z => z) dX3_copy_63 (fun x63 h => ?_)
      refine g_iload_n hx hb hl 2 rfl dX3_copy_66 ?_
      refine g_aload_n hx hb hl 1 rfl dX3_copy_67 ?_
      refine g_rdR hx hb hown hts hKn hS h fd_3_3_7 rfl (Or.inl (hts _ q557)) (fun _ z => z) dX3_copy_68 (fun x68 h => ?_)
      refine g_iload_n hx hb hl 2 rfl dX3_copy_71 ?_
      refine g_ialoadG hx hb hKn hS h dX3_copy_72 (fun x72 h => ?_)
      refine g_iastoreG hx hb hKn hS h dX3_copy_73 (fun G73 h H locs hS => ?_)
      refine lv_iconst (v := 0) hx hb dX3_copy_74 (by decide) ?_
      refine g_istore_n (l1 := [(3, .inl 0), (0, .inr (.inr (some t))), (1, .inr (.inr v1)), (2, .inl v2)]) hx hb hl (by decide) rfl dX3_copy_75 (fun ls hl => ?_)
      exact sX3_copy_b76 C ih gFU _ _ _ _ _ _ h _ _ _ _ _ hS (gls_sub hl [1, 2, 3, 0] rfl)
theorem sX3_copy (l : Launch) (E : g_E) (D : g_D) {t : Nat} {v1 : Option Nat} {G : g_G} {q : g_G} (h : fX3_copy E t v1 G = some q) : gMet l E D yX3_copy (ws_ yX3_copy cX3_copy 4 (none)) 2 87 [.inr (.inr (some t)), .inr (.inr v1)] G none q := by
  refine gMet.of (by decide +kernel) (Nat.le_of_ble_eq_true rfl) ?_
  intro p e R s m args below meth c C hS ls hl
  have C : gC p R s m args meth c cX3_copy 4 RX3 "copy" (none) 2 87 E D := C
  obtain ⟨hx, hb, hml, hown, hts, hKn, hRc, hRs, hc1, hc2, hRf, hRl, hr, hlk, hnm⟩ := id C
  have hl : gls ls 4 [(0, .inr (.inr (some t))), (1, .inr (.inr v1))] := hl
  generalize s.heap = H at hS ⊢
  unfold fX3_copy at h
  refine g_aload_n hx hb hl 0 rfl dX3_copy_0 ?_
  refine g_aload_n hx hb hl 1 rfl dX3_copy_1 ?_
  refine g_rdI hx hb hown hts hKn hS h fd_3_3_0 rfl (Or.inl (hts _ q538)) (fun _ z => z) dX3_copy_2 (fun x2 h => ?_)
  refine g_ptI hx hb hown hts hKn hS h fd_3_3_0 (Or.inl (hts _ q538)) (fun _ z => z) (fun z => nomatch z) dX3_copy_5 (fun G5 h H locs hS => ?_)
  refine g_aload_n hx hb hl 0 rfl dX3_copy_8 ?_
  refine g_aload_n hx hb hl 1 rfl dX3_copy_9 ?_
  refine g_rdI hx hb hown hts hKn hS h fd_3_3_1 rfl (Or.inl (hts _ q542)) (fun _ z => z) dX3_copy_10 (fun x10 h => ?_)
  refine g_ptI hx hb hown hts hKn hS h fd_3_3_1 (Or.inl (hts _ q542)) (fun _ z => z) (fun z => nomatch z) dX3_copy_13 (fun G13 h H locs hS => ?_)
  refine lv_iconst (v := 0) hx hb dX3_copy_16 (by decide) ?_
  refine g_istore_n (l1 := [(2, .inl 0), (0, .inr (.inr (some t))), (1, .inr (.inr v1))]) hx hb hl (by decide) rfl dX3_copy_17 (fun ls hl => ?_)
  exact sX3_copy_b18 C gFU _ _ _ _ _ h _ _ _ _ _ hS (gls_sub hl [1, 2, 0] rfl)
/-- SendHall$Life.kind()I -/
def fX3_kind_b11 (E : g_E) : Nat → Nat → Int32 → g_G → Option (Int32 × g_G)
  | 0, _, _, _ => none
  | n + 1, t, v1, G =>
    (grI G 3 3 (some t) 0).bind fun x13 =>
    if x13 ≤ v1 then (
      some (2, G))
    else (
      (grR G 3 3 (some t) 4).bind fun x20 =>
      (gaI G 102 x20 v1).bind fun x24 =>
      if x24 = 0 then (
        fX3_kind_b11 E n t (v1 + 1) G)
      else (
        some (1, G)))
def fX3_kind (E : g_E) (t : Nat) (G : g_G) : Option (Int32 × g_G) :=
  (gchk G 3 (some t)).bind fun b1 =>
  (fX3_bits E b1 G).bind fun z1 =>
  if ¬ z1.1 = 0 then (
    fX3_kind_b11 E gFU t 0 z1.2)
  else (
    some (0, z1.2))
theorem sX3_kind_b11 {p : Program} {l : Launch} {e : Env} {R : Room} {s : State} {m : MethodId} {args : Array Value} {below : List Frame} {meth : Method} {c : Code} {E : g_E} {D : g_D} (C : gC p R s m args meth c cX3_kind 2 RX3 "kind" (some .int) 3 107 E D) : ∀ (n : Nat) (t : Nat) (v1 : Int32) (G : g_G) (q : Int32 × g_G), fX3_kind_b11 E n t v1 G = some q → ∀ (H : Heap) (locs : List Loc) (cells slots : Nat) (ls : Array Slot), gSt E D G H locs → gls ls 2 [(0, .inr (.inr (some t))), (1, .inl v1)] → gT p l e R s m args below meth c E D H locs cells slots (some (.int q.1)) q.2 (F0 m 11 ls []) := by
  obtain ⟨hx, hb, hml, hown, hts, hKn, hRc, hRs, hc1, hc2, hRf, hRl, hr, hlk, hnm⟩ := id C
  intro n
  induction n with
  | zero =>
    intro t v1 G q h
    exact g_no h
  | succ n ih =>
    intro t v1 G q h H locs cells slots ls hS hl
    rw [fX3_kind_b11] at h
    refine g_iload_n hx hb hl 1 rfl dX3_kind_11 ?_
    refine g_aload_n hx hb hl 0 rfl dX3_kind_12 ?_
    refine g_rdI hx hb hown hts hKn hS h fd_3_3_0 rfl (Or.inl (hts _ q538)) (fun _ z => z) dX3_kind_13 (fun x13 h => ?_)
    refine lv_icmp_ge (tgt := 36) hx hb dX3_kind_16 (by decide) (fun c_16 => ?_) (fun c_16 => ?_)
    · have h := g_ift c_16 h
      refine lv_iconst (v := 2) hx hb dX3_kind_36 (by decide) ?_
      exact g_iretG hx hb hr hlk hKn hRc hRs hS h dX3_kind_37
    · have h := g_iff c_16 h
      refine g_aload_n hx hb hl 0 rfl dX3_kind_19 ?_
      refine g_rdR hx hb hown hts hKn hS h fd_3_3_4 rfl (Or.inl (hts _ q546)) (fun _ z => z) dX3_kind_20 (fun x20 h => ?_)
      refine g_iload_n hx hb hl 1 rfl dX3_kind_23 ?_
      refine g_zaloadG hx hb hKn hS h dX3_kind_24 (fun x24 h => ?_)
      refine lv_if_eq (tgt := 30) hx hb dX3_kind_25 (by decide) (fun c_25 => ?_) (fun c_25 => ?_)
      · have h := g_ift c_25 h
        refine g_iinc (l1 := [(1, .inl (v1 + 1)), (0, .inr (.inr (some t)))]) (v := (v1 + 1)) hx hb hl (k := 1) rfl (by rfl) (by decide) rfl dX3_kind_30 (fun ls hl => ?_)
        refine lv_goto (tgt := 11) hx hb dX3_kind_33 (by decide) ?_
        exact ih _ _ _ _ h _ _ _ _ _ hS (gls_sub hl [1, 0] rfl)
      · have h := g_iff c_25 h
        refine lv_iconst (v := 1) hx hb dX3_kind_28 (by decide) ?_
        exact g_iretG hx hb hr hlk hKn hRc hRs hS h dX3_kind_29
theorem sX3_kind (l : Launch) (E : g_E) (D : g_D) {t : Nat} {G : g_G} {q : Int32 × g_G} (h : fX3_kind E t G = some q) : gMet l E D yX3_kind (ws_ yX3_kind cX3_kind 2 (some .int)) 3 107 [.inr (.inr (some t))] G (some (.int q.1)) q.2 := by
  refine gMet.of (by decide +kernel) (Nat.le_of_ble_eq_true rfl) ?_
  intro p e R s m args below meth c C hS ls hl
  have C : gC p R s m args meth c cX3_kind 2 RX3 "kind" (some .int) 3 107 E D := C
  obtain ⟨hx, hb, hml, hown, hts, hKn, hRc, hRs, hc1, hc2, hRf, hRl, hr, hlk, hnm⟩ := id C
  have hl : gls ls 2 [(0, .inr (.inr (some t)))] := hl
  generalize s.heap = H at hS ⊢
  unfold fX3_kind at h
  refine g_aload_n hx hb hl 0 rfl dX3_kind_0 ?_
  obtain ⟨b1, hb1, h⟩ := g_bnd h
  obtain ⟨hr1, hk1⟩ := g_chk hb1
  obtain ⟨z1, h1, h⟩ := g_bnd h
  refine g_callV (n := 0) (b := b1) (av := []) (rs := []) hx hb hml hown hts hKn hRc hRs hS hl (sX3_bits l E D h1) (lw_V q989 q990 q991 q134 q992) ⟨rfl, by decide, by decide, by decide +kernel⟩ ⟨by rw [hRf]; exact Nat.le_of_ble_eq_true rfl, by rw [hRl]; exact Nat.le_of_ble_eq_true rfl⟩ (g_recv hKn hS hk1 (by decide) (by decide)) rfl (by rw [hr1]; rfl) (Nat.le_of_ble_eq_true rfl) dX3_kind_1 (fun H locs cells slots hS => ?_)
  refine lv_if_ne (tgt := 9) hx hb dX3_kind_4 (by decide) (fun c_4 => ?_) (fun c_4 => ?_)
  · have h := g_ift c_4 h
    refine lv_iconst (v := 0) hx hb dX3_kind_9 (by decide) ?_
    refine g_istore_n (l1 := [(1, .inl 0), (0, .inr (.inr (some t)))]) hx hb hl (by decide) rfl dX3_kind_10 (fun ls hl => ?_)
    exact sX3_kind_b11 C gFU _ _ _ _ h _ _ _ _ _ hS (gls_sub hl [1, 0] rfl)
  · have h := g_iff (fun z => z c_4) h
    refine lv_iconst (v := 0) hx hb dX3_kind_7 (by decide) ?_
    exact g_iretG hx hb hr hlk hKn hRc hRs hS h dX3_kind_8
