set_option maxRecDepth 100000
/-- Step.comes, by the kind of the object -/
def fV_comes (E : g_E) (r : Option Nat) (v1 : Option Nat) (v2 : Int32) (G : g_G) : Option (Option Nat × g_G) :=
  r.bind fun t => if gcl G t = 11 then fX7_comes E t v1 v2 G else if gcl G t = 12 then fX14_comes E t v1 v2 G else if gcl G t = 13 then fX15_comes E t v1 v2 G else if gcl G t = 14 then fX16_comes E t v1 v2 G else if gcl G t = 15 then fX9_comes E t v1 v2 G else if gcl G t = 16 then fX13_comes E t v1 v2 G else none
theorem g_comesV {p : Program} {l : Launch} {e : Env} {R : Room} {s : State} {m : MethodId} {args : Array Value} {below : List Frame} {meth : Method} {c : Code} {H : Heap} {locs : List Loc} {cells slots : Nat} {Q : State → Prop} {cc : ByteArray} {pc nL : Nat} {ls : Array Slot} {E : g_E} {D : g_D} {G : g_G} (hx : p.tables.exec = Jvm.exec) (hb : c.code = cc) (hml : c.maxLocals = nL) (hown : s.vm.findClass RX1 = some m.cls) (hts : ∀ w ∈ lw_all, w.before args s = true) (hKn : gKn E D s) (hRc : R.cells = gMc E - s.heap.size) (hRs : R.slots = gMs E - ghsl s.heap) (hS : gSt E D G H locs) {l0 : List (Nat × g_v)} (hl : gls ls nL l0) {rs : List g_v} {st0 : List Value} {r v1 : Option Nat} {v2 : Int32} {q : Option Nat × g_G} (h : fV_comes E r v1 v2 G = some q)
    (hR : 219 + 1 ≤ R.frames ∧ 8 + (10 + 11) + 7326 ≤ R.locals) (hst : st0 = .int v2 :: va_rf v1 :: va_rf r :: rs.map gvv) (h8 : gwid rs ≤ 8) (hdg : decode cc pc = .ok (.invokevirtual 17, 3))
    (kk : ∀ (H1 : Heap) (locs1 : List Loc) (cells1 slots1 : Nat), gSt E D q.2 H1 locs1 → W p l e R s m args below meth c H1 locs1 cells1 slots1 Q (F0 m (pc + 3) ls (va_rf q.1 :: rs.map gvv))) : W p l e R s m args below meth c H locs cells slots Q (F0 m pc ls st0) := by
  obtain ⟨t, rfl, h⟩ := g_bnd h
  subst hst
  by_cases h11 : gcl G t = 11
  · exact g_callU (n := 2) (b := t) (av := [.inr (.inr v1), .inl v2]) (rs := rs) hx hb hml hown hts hKn hRc hRs hS hl (C := "SendHall$Plain") (owner := "SendHall$Step") (x := ⟨"SendHall$Step", "comes", "(LSendHall$Life;I)LSendHall$Step;"⟩) (sX7_comes l E D (g_ift h11 h)) (va_cwU 2 hts (lw_app (lw_in _ [736, 738, 793, 737, 141] (by decide +kernel) (by decide +kernel)) (lw_meth q812)) rfl rfl rfl rfl ⟨by decide, by decide, by decide +kernel⟩ ⟨Nat.le_trans (Nat.le_of_ble_eq_true rfl) hR.1, Nat.le_trans (Nat.le_of_ble_eq_true rfl) hR.2⟩) (g_recv hKn hS h11 (by decide) (by decide)) rfl rfl h8 hdg kk
  have h := g_iff h11 h
  by_cases h12 : gcl G t = 12
  · exact g_callU (n := 2) (b := t) (av := [.inr (.inr v1), .inl v2]) (rs := rs) hx hb hml hown hts hKn hRc hRs hS hl (C := "SendHall$Set") (owner := "SendHall$Step") (x := ⟨"SendHall$Step", "comes", "(LSendHall$Life;I)LSendHall$Step;"⟩) (sX14_comes l E D (g_ift h12 h)) (va_cwO 2 hts (lw_app (lw_in _ [736, 738, 737, 813, 814, 149] (by decide +kernel) (by decide +kernel)) (lw_meth q815)) rfl rfl rfl q812 ⟨by decide, by decide, by decide +kernel⟩ ⟨Nat.le_trans (Nat.le_of_ble_eq_true rfl) hR.1, Nat.le_trans (Nat.le_of_ble_eq_true rfl) hR.2⟩) (g_recv hKn hS h12 (by decide) (by decide)) rfl rfl h8 hdg kk
  have h := g_iff h12 h
  by_cases h13 : gcl G t = 13
  · exact g_callU (n := 2) (b := t) (av := [.inr (.inr v1), .inl v2]) (rs := rs) hx hb hml hown hts hKn hRc hRs hS hl (C := "SendHall$Tell") (owner := "SendHall$Step") (x := ⟨"SendHall$Step", "comes", "(LSendHall$Life;I)LSendHall$Step;"⟩) (sX15_comes l E D (g_ift h13 h)) (va_cwO 2 hts (lw_app (lw_in _ [736, 738, 737, 818, 819, 150] (by decide +kernel) (by decide +kernel)) (lw_meth q820)) rfl rfl rfl q812 ⟨by decide, by decide, by decide +kernel⟩ ⟨Nat.le_trans (Nat.le_of_ble_eq_true rfl) hR.1, Nat.le_trans (Nat.le_of_ble_eq_true rfl) hR.2⟩) (g_recv hKn hS h13 (by decide) (by decide)) rfl rfl h8 hdg kk
  have h := g_iff h13 h
  by_cases h14 : gcl G t = 14
  · exact g_callU (n := 2) (b := t) (av := [.inr (.inr v1), .inl v2]) (rs := rs) hx hb hml hown hts hKn hRc hRs hS hl (C := "SendHall$If") (owner := "SendHall$Step") (x := ⟨"SendHall$Step", "comes", "(LSendHall$Life;I)LSendHall$Step;"⟩) (sX16_comes l E D (g_ift h14 h)) (va_cwO 2 hts (lw_app (lw_in _ [736, 738, 737, 739, 740, 151] (by decide +kernel) (by decide +kernel)) (lw_meth q741)) rfl rfl rfl q812 ⟨by decide, by decide, by decide +kernel⟩ ⟨Nat.le_trans (Nat.le_of_ble_eq_true rfl) hR.1, Nat.le_trans (Nat.le_of_ble_eq_true rfl) hR.2⟩) (g_recv hKn hS h14 (by decide) (by decide)) rfl rfl h8 hdg kk
  have h := g_iff h14 h
  by_cases h15 : gcl G t = 15
  · exact g_callU (n := 2) (b := t) (av := [.inr (.inr v1), .inl v2]) (rs := rs) hx hb hml hown hts hKn hRc hRs hS hl (C := "SendHall$Send") (owner := "SendHall$Step") (x := ⟨"SendHall$Step", "comes", "(LSendHall$Life;I)LSendHall$Step;"⟩) (sX9_comes l E D (g_ift h15 h)) (va_cwO 2 hts (lw_app (lw_in _ [736, 738, 737, 794, 795, 143] (by decide +kernel) (by decide +kernel)) (lw_meth q796)) rfl rfl rfl q812 ⟨by decide, by decide, by decide +kernel⟩ ⟨Nat.le_trans (Nat.le_of_ble_eq_true rfl) hR.1, Nat.le_trans (Nat.le_of_ble_eq_true rfl) hR.2⟩) (g_recv hKn hS h15 (by decide) (by decide)) rfl rfl h8 hdg kk
  have h := g_iff h15 h
  by_cases h16 : gcl G t = 16
  · exact g_callU (n := 2) (b := t) (av := [.inr (.inr v1), .inl v2]) (rs := rs) hx hb hml hown hts hKn hRc hRs hS hl (C := "SendHall$Wait") (owner := "SendHall$Step") (x := ⟨"SendHall$Step", "comes", "(LSendHall$Life;I)LSendHall$Step;"⟩) (sX13_comes l E D (g_ift h16 h)) (va_cwO 2 hts (lw_app (lw_in _ [736, 738, 737, 823, 824, 148] (by decide +kernel) (by decide +kernel)) (lw_meth q825)) rfl rfl rfl q812 ⟨by decide, by decide, by decide +kernel⟩ ⟨Nat.le_trans (Nat.le_of_ble_eq_true rfl) hR.1, Nat.le_trans (Nat.le_of_ble_eq_true rfl) hR.2⟩) (g_recv hKn hS h16 (by decide) (by decide)) rfl rfl h8 hdg kk
  have h := g_iff h16 h
  exact g_no h
/-- java/util/ArrayList.add(ILjava/lang/Object;)V -/
def fJ2_add_b38 (E : g_E) (t : Nat) (v1 : Int32) (v2 : Option Nat) (v3 : Int32) (v4 : Option Nat) (G : g_G) : Option (g_G) :=
  (gcopy E G v4 v1 v4 (v1 + 1) (v3 - v1)).bind fun G49 =>
  (gsaR E G49 120 v4 v1 v2).bind fun G56 =>
  (gpI E G56 17 17 (some t) 2 (v3 + 1)).bind fun G61 =>
  some G61
def fJ2_add (E : g_E) (t : Nat) (v1 : Int32) (v2 : Option Nat) (G : g_G) : Option (g_G) :=
  (gchk G 17 (some t)).bind fun b2 =>
  (fJ2_rangeCheckForAdd E b2 v1 G).bind fun z2 =>
  (grI z2 17 17 (some t) 0).bind fun x7 =>
  (gpI E z2 17 17 (some t) 0 (x7 + 1)).bind fun G12 =>
  (grI G12 17 17 (some t) 2).bind fun x16 =>
  (grR G12 17 17 (some t) 1).bind fun x22 =>
  (galen G12 x22).bind fun x28 =>
  if ¬ x16 = x28 then (
    fJ2_add_b38 E t v1 v2 x16 x22 G12)
  else (
    (gchk G12 17 (some t)).bind fun b33 =>
    (fJ2_grow E b33 G12).bind fun z33 =>
    fJ2_add_b38 E t v1 v2 x16 z33.1 z33.2)
theorem sJ2_add_b38 {p : Program} {l : Launch} {e : Env} {R : Room} {s : State} {m : MethodId} {args : Array Value} {below : List Frame} {meth : Method} {c : Code} {E : g_E} {D : g_D} (C : gC p R s m args meth c cJ2_add 5 RJ2 "add" (none) 5 167 E D) : ∀ (t : Nat) (v1 : Int32) (v2 : Option Nat) (v3 : Int32) (v4 : Option Nat) (G : g_G) (q : g_G), fJ2_add_b38 E t v1 v2 v3 v4 G = some q → ∀ (H : Heap) (locs : List Loc) (cells slots : Nat) (ls : Array Slot), gSt E D G H locs → gls ls 5 [(0, .inr (.inr (some t))), (1, .inl v1), (2, .inr (.inr v2)), (3, .inl v3), (4, .inr (.inr v4))] → gT p l e R s m args below meth c E D H locs cells slots none q (F0 m 38 ls []) := by
  obtain ⟨hx, hb, hml, hown, hts, hKn, hRc, hRs, hc1, hc2, hRf, hRl, hr, hlk, hnm⟩ := id C
  intro t v1 v2 v3 v4 G q h H locs cells slots ls hS hl
  unfold fJ2_add_b38 at h
  refine g_aload hx hb hl 4 rfl dJ2_add_38 ?_
  refine g_iload_n hx hb hl 1 rfl dJ2_add_40 ?_
  refine g_aload hx hb hl 4 rfl dJ2_add_41 ?_
  refine g_iload_n hx hb hl 1 rfl dJ2_add_43 ?_
  refine lv_iconst (v := 1) hx hb dJ2_add_44 (by decide) ?_
  refine lv_iadd hx hb dJ2_add_45 ?_
  refine g_iload_n hx hb hl 3 rfl dJ2_add_46 ?_
  refine g_iload_n hx hb hl 1 rfl dJ2_add_47 ?_
  refine lv_isub hx hb dJ2_add_48 ?_
  refine g_copyG (rs := []) hx hb hml hown hts hKn hS hl h (hts _ q1062) (hts _ q305) (hts _ q304) (hts _ q129) rfl (Nat.le_of_ble_eq_true rfl) ⟨by rw [hRf]; exact Nat.le_of_ble_eq_true rfl, by rw [hRl]; exact Nat.le_of_ble_eq_true rfl⟩ dJ2_add_49 (fun G49 h H locs hS => ?_)
  refine g_aload hx hb hl 4 rfl dJ2_add_52 ?_
  refine g_iload_n hx hb hl 1 rfl dJ2_add_54 ?_
  refine g_aload_n hx hb hl 2 rfl dJ2_add_55 ?_
  refine g_aastoreG hx hb hKn hS h (by decide) dJ2_add_56 (fun G56 h H locs hS => ?_)
  refine g_aload_n hx hb hl 0 rfl dJ2_add_57 ?_
  refine g_iload_n hx hb hl 3 rfl dJ2_add_58 ?_
  refine lv_iconst (v := 1) hx hb dJ2_add_59 (by decide) ?_
  refine lv_iadd hx hb dJ2_add_60 ?_
  refine g_ptI hx hb hown hts hKn hS h fd_17_17_2 (Or.inl (hts _ q501)) (fun _ z => z) (fun z => nomatch z) dJ2_add_61 (fun G61 h H locs hS => ?_)
  exact g_vretG hx hb hr hlk hKn hRc hRs hS h dJ2_add_64
theorem sJ2_add (l : Launch) (E : g_E) (D : g_D) {t : Nat} {v1 : Int32} {v2 : Option Nat} {G : g_G} {q : g_G} (h : fJ2_add E t v1 v2 G = some q) : gMet l E D yJ2_add (ws_ yJ2_add cJ2_add 5 (none)) 5 167 [.inr (.inr (some t)), .inl v1, .inr (.inr v2)] G none q := by
  refine gMet.of (by decide +kernel) (Nat.le_of_ble_eq_true rfl) ?_
  intro p e R s m args below meth c C hS ls hl
  have C : gC p R s m args meth c cJ2_add 5 RJ2 "add" (none) 5 167 E D := C
  obtain ⟨hx, hb, hml, hown, hts, hKn, hRc, hRs, hc1, hc2, hRf, hRl, hr, hlk, hnm⟩ := id C
  have hl : gls ls 5 [(0, .inr (.inr (some t))), (1, .inl v1), (2, .inr (.inr v2))] := hl
  generalize s.heap = H at hS ⊢
  unfold fJ2_add at h
  refine g_aload_n hx hb hl 0 rfl dJ2_add_0 ?_
  refine g_iload_n hx hb hl 1 rfl dJ2_add_1 ?_
  obtain ⟨b2, hb2, h⟩ := g_bnd h
  obtain ⟨hr2, hk2⟩ := g_chk hb2
  obtain ⟨z2, h2, h⟩ := g_bnd h
  refine g_callV (n := 1) (b := b2) (av := [.inl v1]) (rs := []) hx hb hml hown hts hKn hRc hRs hS hl (sJ2_rangeCheckForAdd l E D h2) (lw_V q1010 q1012 qs20 q117 q1013) ⟨rfl, by decide, by decide, by decide +kernel⟩ ⟨by rw [hRf]; exact Nat.le_of_ble_eq_true rfl, by rw [hRl]; exact Nat.le_of_ble_eq_true rfl⟩ (g_recv hKn hS hk2 (by decide) (by decide)) rfl (by rw [hr2]; rfl) (Nat.le_of_ble_eq_true rfl) dJ2_add_2 (fun H locs cells slots hS => ?_)
  refine g_aload_n hx hb hl 0 rfl dJ2_add_5 ?_
  refine lv_dup hx hb dJ2_add_6 (by first | exact va_rf_cat _ | rfl | exact g_catA _) ?_
  refine g_rdI hx hb hown hts hKn hS h fd_17_17_0 rfl (Or.inl (hts _ q503)) (u_same (hts _ q504)) dJ2_add_7 (fun x7 h => ?_)
  refine lv_iconst (v := 1) hx hb dJ2_add_10 (by decide) ?_
  refine lv_iadd hx hb dJ2_add_11 ?_
  refine g_ptI hx hb hown hts hKn hS h fd_17_17_0 (Or.inl (hts _ q503)) (u_same (hts _ q504)) (fun z => nomatch z) dJ2_add_12 (fun G12 h H locs hS => ?_)
  refine g_aload_n hx hb hl 0 rfl dJ2_add_15 ?_
  refine g_rdI hx hb hown hts hKn hS h fd_17_17_2 rfl (Or.inl (hts _ q501)) (fun _ z => z) dJ2_add_16 (fun x16 h => ?_)
  refine lv_dup hx hb dJ2_add_19 rfl ?_
  refine g_istore_n (l1 := [(3, .inl x16), (0, .inr (.inr (some t))), (1, .inl v1), (2, .inr (.inr v2))]) hx hb hl (by decide) rfl dJ2_add_20 (fun ls hl => ?_)
  refine g_aload_n hx hb hl 1 rfl dJ2_add_21 ?_
  refine g_rdR hx hb hown hts hKn hS h fd_17_17_1 rfl (Or.inl (hts _ q500)) (fun _ z => z) dJ2_add_22 (fun x22 h => ?_)
  refine lv_dup hx hb dJ2_add_25 (by first | exact va_rf_cat _ | rfl | exact g_catA _) ?_
  refine g_astore (l1 := [(4, .inr (.inr x22)), (3, .inl x16), (0, .inr (.inr (some t))), (1, .inl v1), (2, .inr (.inr v2))]) hx hb hl (by decide) rfl dJ2_add_26 (fun ls hl => ?_)
  refine g_alen hx hb hKn hS h dJ2_add_28 (fun x28 h => ?_)
  refine lv_icmp_ne (tgt := 38) hx hb dJ2_add_29 (by decide) (fun c_29 => ?_) (fun c_29 => ?_)
  · have h := g_ift c_29 h
    exact sJ2_add_b38 C _ _ _ _ _ _ _ h _ _ _ _ _ hS (gls_sub hl [2, 3, 4, 1, 0] rfl)
  · have h := g_iff (fun z => z c_29) h
    refine g_aload_n hx hb hl 2 rfl dJ2_add_32 ?_
    obtain ⟨b33, hb33, h⟩ := g_bnd h
    obtain ⟨hr33, hk33⟩ := g_chk hb33
    obtain ⟨z33, h33, h⟩ := g_bnd h
    refine g_callV (n := 0) (b := b33) (av := []) (rs := []) hx hb hml hown hts hKn hRc hRs hS hl (sJ2_grow l E D h33) (lw_V q1014 q1016 qs21 q117 q1017) ⟨rfl, by decide, by decide, by decide +kernel⟩ ⟨by rw [hRf]; exact Nat.le_of_ble_eq_true rfl, by rw [hRl]; exact Nat.le_of_ble_eq_true rfl⟩ (g_recv hKn hS hk33 (by decide) (by decide)) rfl (by rw [hr33]; rfl) (Nat.le_of_ble_eq_true rfl) dJ2_add_33 (fun H locs cells slots hS => ?_)
    refine g_astore (l1 := [(4, .inr (.inr z33.1)), (3, .inl x16), (0, .inr (.inr (some t))), (1, .inl v1), (2, .inr (.inr v2))]) hx hb hl (by decide) rfl dJ2_add_36 (fun ls hl => ?_)
    exact sJ2_add_b38 C _ _ _ _ _ _ _ h _ _ _ _ _ hS (gls_sub hl [2, 3, 4, 1, 0] rfl)
/-- java/util/ArrayList.add(Ljava/lang/Object;[Ljava/lang/Object;I)V -/
def fJ2_add_3_b11 (E : g_E) (t : Nat) (v1 : Option Nat) (v2 : Option Nat) (v3 : Int32) (G : g_G) : Option (g_G) :=
  (gsaR E G 120 v2 v3 v1).bind fun G14 =>
  (gpI E G14 17 17 (some t) 2 (v3 + 1)).bind fun G19 =>
  some G19
def fJ2_add_3 (E : g_E) (t : Nat) (v1 : Option Nat) (v2 : Option Nat) (v3 : Int32) (G : g_G) : Option (g_G) :=
  (galen G v2).bind fun x2 =>
  if ¬ v3 = x2 then (
    fJ2_add_3_b11 E t v1 v2 v3 G)
  else (
    (gchk G 17 (some t)).bind fun b7 =>
    (fJ2_grow E b7 G).bind fun z7 =>
    fJ2_add_3_b11 E t v1 z7.1 v3 z7.2)
theorem sJ2_add_3_b11 {p : Program} {l : Launch} {e : Env} {R : Room} {s : State} {m : MethodId} {args : Array Value} {below : List Frame} {meth : Method} {c : Code} {E : g_E} {D : g_D} (C : gC p R s m args meth c cJ2_add_3 4 RJ2 "add" (none) 5 167 E D) : ∀ (t : Nat) (v1 : Option Nat) (v2 : Option Nat) (v3 : Int32) (G : g_G) (q : g_G), fJ2_add_3_b11 E t v1 v2 v3 G = some q → ∀ (H : Heap) (locs : List Loc) (cells slots : Nat) (ls : Array Slot), gSt E D G H locs → gls ls 4 [(0, .inr (.inr (some t))), (1, .inr (.inr v1)), (2, .inr (.inr v2)), (3, .inl v3)] → gT p l e R s m args below meth c E D H locs cells slots none q (F0 m 11 ls []) := by
  obtain ⟨hx, hb, hml, hown, hts, hKn, hRc, hRs, hc1, hc2, hRf, hRl, hr, hlk, hnm⟩ := id C
  intro t v1 v2 v3 G q h H locs cells slots ls hS hl
  unfold fJ2_add_3_b11 at h
  refine g_aload_n hx hb hl 2 rfl dJ2_add_3_11 ?_
  refine g_iload_n hx hb hl 3 rfl dJ2_add_3_12 ?_
  refine g_aload_n hx hb hl 1 rfl dJ2_add_3_13 ?_
  refine g_aastoreG hx hb hKn hS h (by decide) dJ2_add_3_14 (fun G14 h H locs hS => ?_)
  refine g_aload_n hx hb hl 0 rfl dJ2_add_3_15 ?_
  refine g_iload_n hx hb hl 3 rfl dJ2_add_3_16 ?_
  refine lv_iconst (v := 1) hx hb dJ2_add_3_17 (by decide) ?_
  refine lv_iadd hx hb dJ2_add_3_18 ?_
  refine g_ptI hx hb hown hts hKn hS h fd_17_17_2 (Or.inl (hts _ q501)) (fun _ z => z) (fun z => nomatch z) dJ2_add_3_19 (fun G19 h H locs hS => ?_)
  exact g_vretG hx hb hr hlk hKn hRc hRs hS h dJ2_add_3_22
theorem sJ2_add_3 (l : Launch) (E : g_E) (D : g_D) {t : Nat} {v1 : Option Nat} {v2 : Option Nat} {v3 : Int32} {G : g_G} {q : g_G} (h : fJ2_add_3 E t v1 v2 v3 G = some q) : gMet l E D yJ2_add_3 (ws_ yJ2_add_3 cJ2_add_3 4 (none)) 5 167 [.inr (.inr (some t)), .inr (.inr v1), .inr (.inr v2), .inl v3] G none q := by
  refine gMet.of (by decide +kernel) (Nat.le_of_ble_eq_true rfl) ?_
  intro p e R s m args below meth c C hS ls hl
  have C : gC p R s m args meth c cJ2_add_3 4 RJ2 "add" (none) 5 167 E D := C
  obtain ⟨hx, hb, hml, hown, hts, hKn, hRc, hRs, hc1, hc2, hRf, hRl, hr, hlk, hnm⟩ := id C
  have hl : gls ls 4 [(0, .inr (.inr (some t))), (1, .inr (.inr v1)), (2, .inr (.inr v2)), (3, .inl v3)] := hl
  generalize s.heap = H at hS ⊢
  unfold fJ2_add_3 at h
  refine g_iload_n hx hb hl 3 rfl dJ2_add_3_0 ?_
  refine g_aload_n hx hb hl 2 rfl dJ2_add_3_1 ?_
  refine g_alen hx hb hKn hS h dJ2_add_3_2 (fun x2 h => ?_)
  refine lv_icmp_ne (tgt := 11) hx hb dJ2_add_3_3 (by decide) (fun c_3 => ?_) (fun c_3 => ?_)
  · have h := g_ift c_3 h
    exact sJ2_add_3_b11 C _ _ _ _ _ _ h _ _ _ _ _ hS (gls_sub hl [0, 1, 2, 3] rfl)
  · have h := g_iff (fun z => z c_3) h
    refine g_aload_n hx hb hl 0 rfl dJ2_add_3_6 ?_
    obtain ⟨b7, hb7, h⟩ := g_bnd h
    obtain ⟨hr7, hk7⟩ := g_chk hb7
    obtain ⟨z7, h7, h⟩ := g_bnd h
    refine g_callV (n := 0) (b := b7) (av := []) (rs := []) hx hb hml hown hts hKn hRc hRs hS hl (sJ2_grow l E D h7) (lw_V q1014 q1016 qs21 q117 q1017) ⟨rfl, by decide, by decide, by decide +kernel⟩ ⟨by rw [hRf]; exact Nat.le_of_ble_eq_true rfl, by rw [hRl]; exact Nat.le_of_ble_eq_true rfl⟩ (g_recv hKn hS hk7 (by decide) (by decide)) rfl (by rw [hr7]; rfl) (Nat.le_of_ble_eq_true rfl) dJ2_add_3_7 (fun H locs cells slots hS => ?_)
    refine g_astore_n (l1 := [(2, .inr (.inr z7.1)), (0, .inr (.inr (some t))), (1, .inr (.inr v1)), (3, .inl v3)]) hx hb hl (by decide) rfl dJ2_add_3_10 (fun ls hl => ?_)
    exact sJ2_add_3_b11 C _ _ _ _ _ _ h _ _ _ _ _ hS (gls_sub hl [1, 2, 0, 3] rfl)
/-- java/lang/StringBuilder.toString()Ljava/lang/String; -/
def fJ8_toString (E : g_E) (t : Nat) (G : g_G) : Option (Option Nat × g_G) :=
  (gnewO E G 19 4).bind fun z0 =>
  (fJ9_init E z0.1 (some t) z0.2).bind fun z5 =>
  some ((some z0.1), z5)
theorem sJ8_toString (l : Launch) (E : g_E) (D : g_D) {t : Nat} {G : g_G} {q : Option Nat × g_G} (h : fJ8_toString E t G = some q) : gMet l E D yJ8_toString (ws_ yJ8_toString cJ8_toString 1 (some (.object "java/lang/String"))) 6 176 [.inr (.inr (some t))] G (some (va_rf q.1)) q.2 := by
  refine gMet.of (by decide +kernel) (Nat.le_of_ble_eq_true rfl) ?_
  intro p e R s m args below meth c C hS ls hl
  have C : gC p R s m args meth c cJ8_toString 1 RJ8 "toString" (some (.object "java/lang/String")) 6 176 E D := C
  obtain ⟨hx, hb, hml, hown, hts, hKn, hRc, hRs, hc1, hc2, hRf, hRl, hr, hlk, hnm⟩ := id C
  have hl : gls ls 1 [(0, .inr (.inr (some t)))] := hl
  generalize s.heap = H at hS ⊢
  unfold fJ8_toString at h
  refine g_newG (k := 19) hx hb hown hts hKn hRc hRs hS h (by decide) (by decide) (hts _ q409) (hts _ q410) (hts _ q124) dJ8_toString_0 (fun z0 h H locs cells slots hS => ?_)
  refine lv_dup hx hb dJ8_toString_3 (by first | exact va_rf_cat _ | rfl | exact g_catA _) ?_
  refine g_aload_n hx hb hl 0 rfl dJ8_toString_4 ?_
  obtain ⟨z5, h5, h⟩ := g_bnd h
  refine g_callI (n := 1) (av := [.inr (.inr (some t))]) (rs := [.inr (.inr (some z0.1))]) hx hb hml hown hts hKn hRc hRs hS hl (sJ9_init l E D h5) (lw_meth q413) (hts _ q124) (hts _ q411) (hts _ q412) rfl ⟨by decide, by decide, by decide +kernel⟩ ⟨by rw [hRf]; exact Nat.le_of_ble_eq_true rfl, by rw [hRl]; exact Nat.le_of_ble_eq_true rfl⟩ rfl rfl (Nat.le_of_ble_eq_true rfl) dJ8_toString_5 (fun H locs cells slots hS => ?_)
  exact g_aretG hx hb hr (by first | exact Or.inl ⟨_, rfl⟩ | exact Or.inr ⟨_, rfl⟩) hlk hKn hRc hRs hS h dJ8_toString_8
/-- SendHall.endsWith(LSendHall$Life;)V -/
def fX1_endsWith_b131 (E : g_E) (t : Nat) (v2 : Option Nat) (v3 : Int32) (G : g_G) : Option (g_G) :=
  (grR G 1 1 (some t) 16).bind fun x132 =>
  (gchk G 17 x132).bind fun b137 =>
  (fJ2_add E b137 v3 v2 G).bind fun z137 =>
  some z137
def fX1_endsWith_b102 (E : g_E) (t : Nat) (v2 : Option Nat) (v3 : Int32) (G : g_G) : Option (g_G) :=
  if v3 ≤ 0 then (
    fX1_endsWith_b131 E t v2 v3 G)
  else (
    (grR G 1 1 (some t) 16).bind fun x107 =>
    (gchk G 17 x107).bind fun b113 =>
    (fJ2_get E b113 (v3 - 1) G).bind fun z113 =>
    (gcast z113.2 7 7 z113.1).bind fun x116 =>
    (grI z113.2 1 1 (some t) 0).bind fun x121 =>
    (gchk z113.2 7 x116).bind fun b124 =>
    (fX18_isLike E b124 v2 x121 z113.2).bind fun z124 =>
    if z124.1 = 0 then (
      fX1_endsWith_b131 E t v2 v3 z124.2)
    else (
      some z124.2))
def fX1_endsWith_b68 (E : g_E) : Nat → Nat → (Option Nat) → Int32 → g_G → Option (g_G)
  | 0, _, _, _, _ => none
  | n + 1, t, v2, v3, G =>
    if v3 ≤ 0 then (
      fX1_endsWith_b102 E t v2 v3 G)
    else (
      (grR G 1 1 (some t) 16).bind fun x74 =>
      (gchk G 17 x74).bind fun b80 =>
      (fJ2_get E b80 (v3 - 1) G).bind fun z80 =>
      (gcast z80.2 7 7 z80.1).bind fun x83 =>
      (grI z80.2 1 1 (some t) 0).bind fun x87 =>
      (gchk z80.2 7 v2).bind fun b90 =>
      (fX18_isAhead E b90 x83 x87 z80.2).bind fun z90 =>
      if z90.1 = 0 then (
        fX1_endsWith_b102 E t v2 v3 z90.2)
      else (
        fX1_endsWith_b68 E n t v2 (v3 + (-1)) z90.2))
def fX1_endsWith_b34 (E : g_E) : Nat → Nat → (Option Nat) → (Option Nat) → Int32 → g_G → Option (g_G)
  | 0, _, _, _, _, _ => none
  | n + 1, t, v1, v2, v3, G =>
    (grI G 1 1 (some t) 0).bind fun x36 =>
    if x36 ≤ v3 then (
      (grR G 1 1 (some t) 16).bind fun x61 =>
      (gchk G 17 x61).bind fun b64 =>
      (fJ2_size E b64 G).bind fun z64 =>
      fX1_endsWith_b68 E gFU t v2 z64.1 z64.2)
    else (
      (grR G 7 7 v2 3).bind fun x43 =>
      (grR G 3 3 v1 7).bind fun x48 =>
      (gaI G 100 x48 v3).bind fun x52 =>
      (gsaI E G x43 v3 x52).bind fun G53 =>
      fX1_endsWith_b34 E n t v1 v2 (v3 + 1) G53)
def fX1_endsWith (E : g_E) (t : Nat) (v1 : Option Nat) (G : g_G) : Option (g_G) :=
  (gnewO E G 7 4).bind fun z0 =>
  (fX18_init E z0.1 z0.2).bind fun z4 =>
  (gchk z4 3 v1).bind fun b10 =>
  (fX3_kind E b10 z4).bind fun z10 =>
  (gpI E z10.2 7 7 (some z0.1) 0 z10.1).bind fun G13 =>
  (grI G13 3 3 v1 1).bind fun x18 =>
  (gpI E G13 7 7 (some z0.1) 1 x18).bind fun G21 =>
  (gchk G21 3 v1).bind fun b26 =>
  (fX3_bits E b26 G21).bind fun z26 =>
  (gpI E z26.2 7 7 (some z0.1) 2 z26.1).bind fun G29 =>
  fX1_endsWith_b34 E gFU t v1 (some z0.1) 0 G29
theorem sX1_endsWith_b131 {p : Program} {l : Launch} {e : Env} {R : Room} {s : State} {m : MethodId} {args : Array Value} {below : List Frame} {meth : Method} {c : Code} {E : g_E} {D : g_D} (C : gC p R s m args meth c cX1_endsWith 4 RX1 "endsWith" (none) 6 191 E D) : ∀ (t : Nat) (v2 : Option Nat) (v3 : Int32) (G : g_G) (q : g_G), fX1_endsWith_b131 E t v2 v3 G = some q → ∀ (H : Heap) (locs : List Loc) (cells slots : Nat) (ls : Array Slot), gSt E D G H locs → gls ls 4 [(0, .inr (.inr (some t))), (2, .inr (.inr v2)), (3, .inl v3)] → gT p l e R s m args below meth c E D H locs cells slots none q (F0 m 131 ls []) := by
  obtain ⟨hx, hb, hml, hown, hts, hKn, hRc, hRs, hc1, hc2, hRf, hRl, hr, hlk, hnm⟩ := id C
  intro t v2 v3 G q h H locs cells slots ls hS hl
  unfold fX1_endsWith_b131 at h
  refine g_aload_n hx hb hl 0 rfl dX1_endsWith_131 ?_
  refine g_rdR hx hb hown hts hKn hS h fd_1_1_16 rfl (Or.inl (hts _ q613)) (fun _ z => z) dX1_endsWith_132 (fun x132 h => ?_)
  refine g_iload_n hx hb hl 2 rfl dX1_endsWith_135 ?_
  refine g_aload_n hx hb hl 1 rfl dX1_endsWith_136 ?_
  obtain ⟨b137, hb137, h⟩ := g_bnd h
  obtain ⟨hr137, hk137⟩ := g_chk hb137
  obtain ⟨z137, h137, h⟩ := g_bnd h
  refine g_callV (n := 2) (b := b137) (av := [.inl v3, .inr (.inr v2)]) (rs := []) hx hb hml hown hts hKn hRc hRs hS hl (sJ2_add l E D h137) (lw_V q1006 q1007 q1008 q117 q1009) ⟨rfl, by decide, by decide, by decide +kernel⟩ ⟨by rw [hRf]; exact Nat.le_of_ble_eq_true rfl, by rw [hRl]; exact Nat.le_of_ble_eq_true rfl⟩ (g_recv hKn hS hk137 (by decide) (by decide)) rfl (by rw [hr137]; rfl) (Nat.le_of_ble_eq_true rfl) dX1_endsWith_137 (fun H locs cells slots hS => ?_)
  exact g_vretG hx hb hr hlk hKn hRc hRs hS h dX1_endsWith_140
theorem sX1_endsWith_b102 {p : Program} {l : Launch} {e : Env} {R : Room} {s : State} {m : MethodId} {args : Array Value} {below : List Frame} {meth : Method} {c : Code} {E : g_E} {D : g_D} (C : gC p R s m args meth c cX1_endsWith 4 RX1 "endsWith" (none) 6 191 E D) : ∀ (t : Nat) (v2 : Option Nat) (v3 : Int32) (G : g_G) (q : g_G), fX1_endsWith_b102 E t v2 v3 G = some q → ∀ (H : Heap) (locs : List Loc) (cells slots : Nat) (ls : Array Slot), gSt E D G H locs → gls ls 4 [(0, .inr (.inr (some t))), (2, .inr (.inr v2)), (3, .inl v3)] → gT p l e R s m args below meth c E D H locs cells slots none q (F0 m 102 ls []) := by
  obtain ⟨hx, hb, hml, hown, hts, hKn, hRc, hRs, hc1, hc2, hRf, hRl, hr, hlk, hnm⟩ := id C
  intro t v2 v3 G q h H locs cells slots ls hS hl
  unfold fX1_endsWith_b102 at h
  refine g_iload_n hx hb hl 2 rfl dX1_endsWith_102 ?_
  refine lv_if_le (tgt := 131) hx hb dX1_endsWith_103 (by decide) (fun c_103 => ?_) (fun c_103 => ?_)
  · have h := g_ift c_103 h
    exact sX1_endsWith_b131 C _ _ _ _ _ h _ _ _ _ _ hS (gls_sub hl [0, 1, 2] rfl)
  · have h := g_iff c_103 h
    refine g_aload_n hx hb hl 0 rfl dX1_endsWith_106 ?_
    refine g_rdR hx hb hown hts hKn hS h fd_1_1_16 rfl (Or.inl (hts _ q613)) (fun _ z => z) dX1_endsWith_107 (fun x107 h => ?_)
    refine g_iload_n hx hb hl 2 rfl dX1_endsWith_110 ?_
    refine lv_iconst (v := 1) hx hb dX1_endsWith_111 (by decide) ?_
    refine lv_isub hx hb dX1_endsWith_112 ?_
    obtain ⟨b113, hb113, h⟩ := g_bnd h
    obtain ⟨hr113, hk113⟩ := g_chk hb113
    obtain ⟨z113, h113, h⟩ := g_bnd h
    refine g_callV (n := 1) (b := b113) (av := [.inl (v3 - 1)]) (rs := []) hx hb hml hown hts hKn hRc hRs hS hl (sJ2_get l E D h113) (lw_V q996 q759 q760 q117 q761) ⟨rfl, by decide, by decide, by decide +kernel⟩ ⟨by rw [hRf]; exact Nat.le_of_ble_eq_true rfl, by rw [hRl]; exact Nat.le_of_ble_eq_true rfl⟩ (g_recv hKn hS hk113 (by decide) (by decide)) rfl (by rw [hr113]; rfl) (Nat.le_of_ble_eq_true rfl) dX1_endsWith_113 (fun H locs cells slots hS => ?_)
    refine g_castS (k := 7) hx hb hown hKn hS h (by decide) (by decide) (hts _ q962) dX1_endsWith_116 (fun x116 h => ?_)
    refine g_aload_n hx hb hl 1 rfl dX1_endsWith_119 ?_
    refine g_aload_n hx hb hl 0 rfl dX1_endsWith_120 ?_
    refine g_rdI hx hb hown hts hKn hS h fd_1_1_0 rfl (Or.inl (hts _ q597)) (fun _ z => z) dX1_endsWith_121 (fun x121 h => ?_)
    obtain ⟨b124, hb124, h⟩ := g_bnd h
    obtain ⟨hr124, hk124⟩ := g_chk hb124
    obtain ⟨z124, h124, h⟩ := g_bnd h
    refine g_callV (n := 2) (b := b124) (av := [.inr (.inr v2), .inl x121]) (rs := []) hx hb hml hown hts hKn hRc hRs hS hl (sX18_isLike l E D h124) (lw_V q1001 q1002 q1003 q155 q1004) ⟨rfl, by decide, by decide, by decide +kernel⟩ ⟨by rw [hRf]; exact Nat.le_of_ble_eq_true rfl, by rw [hRl]; exact Nat.le_of_ble_eq_true rfl⟩ (g_recv hKn hS hk124 (by decide) (by decide)) rfl (by rw [hr124]; rfl) (Nat.le_of_ble_eq_true rfl) dX1_endsWith_124 (fun H locs cells slots hS => ?_)
    refine lv_if_eq (tgt := 131) hx hb dX1_endsWith_127 (by decide) (fun c_127 => ?_) (fun c_127 => ?_)
    · have h := g_ift c_127 h
      exact sX1_endsWith_b131 C _ _ _ _ _ h _ _ _ _ _ hS (gls_sub hl [0, 1, 2] rfl)
    · have h := g_iff c_127 h
      exact g_vretG hx hb hr hlk hKn hRc hRs hS h dX1_endsWith_130
theorem sX1_endsWith_b68 {p : Program} {l : Launch} {e : Env} {R : Room} {s : State} {m : MethodId} {args : Array Value} {below : List Frame} {meth : Method} {c : Code} {E : g_E} {D : g_D} (C : gC p R s m args meth c cX1_endsWith 4 RX1 "endsWith" (none) 6 191 E D) : ∀ (n : Nat) (t : Nat) (v2 : Option Nat) (v3 : Int32) (G : g_G) (q : g_G), fX1_endsWith_b68 E n t v2 v3 G = some q → ∀ (H : Heap) (locs : List Loc) (cells slots : Nat) (ls : Array Slot), gSt E D G H locs → gls ls 4 [(0, .inr (.inr (some t))), (2, .inr (.inr v2)), (3, .inl v3)] → gT p l e R s m args below meth c E D H locs cells slots none q (F0 m 68 ls []) := by
  obtain ⟨hx, hb, hml, hown, hts, hKn, hRc, hRs, hc1, hc2, hRf, hRl, hr, hlk, hnm⟩ := id C
  intro n
  induction n with
  | zero =>
    intro t v2 v3 G q h
    exact g_no h
  | succ n ih =>
    intro t v2 v3 G q h H locs cells slots ls hS hl
    rw [fX1_endsWith_b68] at h
    refine g_iload_n hx hb hl 2 rfl dX1_endsWith_68 ?_
    refine lv_if_le (tgt := 102) hx hb dX1_endsWith_69 (by decide) (fun c_69 => ?_) (fun c_69 => ?_)
    · have h := g_ift c_69 h
      exact sX1_endsWith_b102 C _ _ _ _ _ h _ _ _ _ _ hS (gls_sub hl [0, 1, 2] rfl)
    · have h := g_iff c_69 h
      refine g_aload_n hx hb hl 1 rfl dX1_endsWith_72 ?_
      refine g_aload_n hx hb hl 0 rfl dX1_endsWith_73 ?_
      refine g_rdR hx hb hown hts hKn hS h fd_1_1_16 rfl (Or.inl (hts _ q613)) (fun _ z => z) dX1_endsWith_74 (fun x74 h => ?_)
      refine g_iload_n hx hb hl 2 rfl dX1_endsWith_77 ?_
      refine lv_iconst (v := 1) hx hb dX1_endsWith_78 (by decide) ?_
      refine lv_isub hx hb dX1_endsWith_79 ?_
      obtain ⟨b80, hb80, h⟩ := g_bnd h
      obtain ⟨hr80, hk80⟩ := g_chk hb80
      obtain ⟨z80, h80, h⟩ := g_bnd h
      refine g_callV (n := 1) (b := b80) (av := [.inl (v3 - 1)]) (rs := [.inr (.inr v2)]) hx hb hml hown hts hKn hRc hRs hS hl (sJ2_get l E D h80) (lw_V q996 q759 q760 q117 q761) ⟨rfl, by decide, by decide, by decide +kernel⟩ ⟨by rw [hRf]; exact Nat.le_of_ble_eq_true rfl, by rw [hRl]; exact Nat.le_of_ble_eq_true rfl⟩ (g_recv hKn hS hk80 (by decide) (by decide)) rfl (by rw [hr80]; rfl) (Nat.le_of_ble_eq_true rfl) dX1_endsWith_80 (fun H locs cells slots hS => ?_)
      refine g_castS (k := 7) hx hb hown hKn hS h (by decide) (by decide) (hts _ q962) dX1_endsWith_83 (fun x83 h => ?_)
      refine g_aload_n hx hb hl 0 rfl dX1_endsWith_86 ?_
      refine g_rdI hx hb hown hts hKn hS h fd_1_1_0 rfl (Or.inl (hts _ q597)) (fun _ z => z) dX1_endsWith_87 (fun x87 h => ?_)
      obtain ⟨b90, hb90, h⟩ := g_bnd h
      obtain ⟨hr90, hk90⟩ := g_chk hb90
      obtain ⟨z90, h90, h⟩ := g_bnd h
      refine g_callV (n := 2) (b := b90) (av := [.inr (.inr x83), .inl x87]) (rs := []) hx hb hml hown hts hKn hRc hRs hS hl (sX18_isAhead l E D h90) (lw_V q997 q998 q999 q155 q1000) ⟨rfl, by decide, by decide, by decide +kernel⟩ ⟨by rw [hRf]; exact Nat.le_of_ble_eq_true rfl, by rw [hRl]; exact Nat.le_of_ble_eq_true rfl⟩ (g_recv hKn hS hk90 (by decide) (by decide)) rfl (by rw [hr90]; rfl) (Nat.le_of_ble_eq_true rfl) dX1_endsWith_90 (fun H locs cells slots hS => ?_)
      refine lv_if_eq (tgt := 102) hx hb dX1_endsWith_93 (by decide) (fun c_93 => ?_) (fun c_93 => ?_)
      · have h := g_ift c_93 h
        exact sX1_endsWith_b102 C _ _ _ _ _ h _ _ _ _ _ hS (gls_sub hl [0, 1, 2] rfl)
      · have h := g_iff c_93 h
        refine g_iinc (l1 := [(3, .inl (v3 + (-1))), (0, .inr (.inr (some t))), (2, .inr (.inr v2))]) (v := (v3 + (-1))) hx hb hl (k := 2) rfl (by rfl) (by decide) rfl dX1_endsWith_96 (fun ls hl => ?_)
        refine lv_goto (tgt := 68) hx hb dX1_endsWith_99 (by decide) ?_
        exact ih _ _ _ _ _ h _ _ _ _ _ hS (gls_sub hl [1, 2, 0] rfl)
theorem sX1_endsWith_b34 {p : Program} {l : Launch} {e : Env} {R : Room} {s : State} {m : MethodId} {args : Array Value} {below : List Frame} {meth : Method} {c : Code} {E : g_E} {D : g_D} (C : gC p R s m args meth c cX1_endsWith 4 RX1 "endsWith" (none) 6 191 E D) : ∀ (n : Nat) (t : Nat) (v1 : Option Nat) (v2 : Option Nat) (v3 : Int32) (G : g_G) (q : g_G), fX1_endsWith_b34 E n t v1 v2 v3 G = some q → ∀ (H : Heap) (locs : List Loc) (cells slots : Nat) (ls : Array Slot), gSt E D G H locs → gls ls 4 [(0, .inr (.inr (some t))), (1, .inr (.inr v1)), (2, .inr (.inr v2)), (3, .inl v3)] → gT p l e R s m args below meth c E D H locs cells slots none q (F0 m 34 ls []) := by
  obtain ⟨hx, hb, hml, hown, hts, hKn, hRc, hRs, hc1, hc2, hRf, hRl, hr, hlk, hnm⟩ := id C
  intro n
  induction n with
  | zero =>
    intro t v1 v2 v3 G q h
    exact g_no h
  | succ n ih =>
    intro t v1 v2 v3 G q h H locs cells slots ls hS hl
    rw [fX1_endsWith_b34] at h
    refine g_iload_n hx hb hl 3 rfl dX1_endsWith_34 ?_
    refine g_aload_n hx hb hl 0 rfl dX1_endsWith_35 ?_
    refine g_rdI hx hb hown hts hKn hS h fd_1_1_0 rfl (Or.inl (hts _ q597)) (fun _ z => z) dX1_endsWith_36 (fun x36 h => ?_)
    refine lv_icmp_ge (tgt := 60) hx hb dX1_endsWith_39 (by decide) (fun c_39 => ?_) (fun c_39 => ?_)
    · have h := g_ift c_39 h
      refine g_aload_n hx hb hl 0 rfl dX1_endsWith_60 ?_
      refine g_rdR hx hb hown hts hKn hS h fd_1_1_16 rfl (Or.inl (hts _ q613)) (fun _ z => z) dX1_endsWith_61 (fun x61 h => ?_)
      obtain ⟨b64, hb64, h⟩ := g_bnd h
      obtain ⟨hr64, hk64⟩ := g_chk hb64
      obtain ⟨z64, h64, h⟩ := g_bnd h
      refine g_callV (n := 0) (b := b64) (av := []) (rs := []) hx hb hml hown hts hKn hRc hRs hS hl (sJ2_size l E D h64) (lw_V q995 q782 q783 q117 q784) ⟨rfl, by decide, by decide, by decide +kernel⟩ ⟨by rw [hRf]; exact Nat.le_of_ble_eq_true rfl, by rw [hRl]; exact Nat.le_of_ble_eq_true rfl⟩ (g_recv hKn hS hk64 (by decide) (by decide)) rfl (by rw [hr64]; rfl) (Nat.le_of_ble_eq_true rfl) dX1_endsWith_64 (fun H locs cells slots hS => ?_)
      refine g_istore_n (l1 := [(3, .inl z64.1), (0, .inr (.inr (some t))), (1, .inr (.inr v1)), (2, .inr (.inr v2))]) hx hb hl (by decide) rfl dX1_endsWith_67 (fun ls hl => ?_)
      exact sX1_endsWith_b68 C gFU _ _ _ _ _ h _ _ _ _ _ hS (gls_sub hl [1, 3, 0] rfl)
    · have h := g_iff c_39 h
      refine g_aload_n hx hb hl 2 rfl dX1_endsWith_42 ?_
      refine g_rdR hx hb hown hts hKn hS h fd_7_7_3 rfl (Or.inr ⟨_, gNest_use rfl (hKn.2.2.2.2.1 _ (gNest_in q975 rfl))⟩) (fun _ z => z) dX1_endsWith_43 (fun x43 h => ?_)
      refine g_iload_n hx hb hl 3 rfl dX1_endsWith_46 ?_
      refine g_aload_n hx hb hl 1 rfl dX1_endsWith_47 ?_
      refine g_rdR hx hb hown hts hKn hS h fd_3_3_7 rfl (Or.inr ⟨_, gNest_use rfl (hKn.2.2.2.2.1 _ (gNest_in q559 rfl))⟩) (fun _ z => z) dX1_endsWith_48 (fun x48 h => ?_)
      refine g_iload_n hx hb hl 3 rfl dX1_endsWith_51 ?_
      refine g_ialoadG hx hb hKn hS h dX1_endsWith_52 (fun x52 h => ?_)
      refine g_iastoreG hx hb hKn hS h dX1_endsWith_53 (fun G53 h H locs hS => ?_)
      refine g_iinc (l1 := [(3, .inl (v3 + 1)), (0, .inr (.inr (some t))), (1, .inr (.inr v1)), (2, .inr (.inr v2))]) (v := (v3 + 1)) hx hb hl (k := 3) rfl (by rfl) (by decide) rfl dX1_endsWith_54 (fun ls hl => ?_)
      refine lv_goto (tgt := 34) hx hb dX1_endsWith_57 (by decide) ?_
      exact ih _ _ _ _ _ _ h _ _ _ _ _ hS (gls_sub hl [1, 2, 3, 0] rfl)
theorem sX1_endsWith (l : Launch) (E : g_E) (D : g_D) {t : Nat} {v1 : Option Nat} {G : g_G} {q : g_G} (h : fX1_endsWith E t v1 G = some q) : gMet l E D yX1_endsWith (ws_ yX1_endsWith cX1_endsWith 4 (none)) 6 191 [.inr (.inr (some t)), .inr (.inr v1)] G none q := by
  refine gMet.of (by decide +kernel) (Nat.le_of_ble_eq_true rfl) ?_
  intro p e R s m args below meth c C hS ls hl
  have C : gC p R s m args meth c cX1_endsWith 4 RX1 "endsWith" (none) 6 191 E D := C
  obtain ⟨hx, hb, hml, hown, hts, hKn, hRc, hRs, hc1, hc2, hRf, hRl, hr, hlk, hnm⟩ := id C
  have hl : gls ls 4 [(0, .inr (.inr (some t))), (1, .inr (.inr v1))] := hl
  generalize s.heap = H at hS ⊢
  unfold fX1_endsWith at h
  refine g_newG (k := 7) hx hb hown hts hKn hRc hRs hS h (by decide) (by decide) (hts _ q962) (hts _ q963) (hts _ q155) dX1_endsWith_0 (fun z0 h H locs cells slots hS => ?_)
  refine lv_dup hx hb dX1_endsWith_3 (by first | exact va_rf_cat _ | rfl | exact g_catA _) ?_
  obtain ⟨z4, h4, h⟩ := g_bnd h
  refine g_callIN (n := 0) (av := []) (rs := [.inr (.inr (some z0.1))]) hx hb hml hown hts hKn hRc hRs hS hl (sX18_init l E D h4) (lw_meth q966) (hts _ q155) q964 (hts _ q965) rfl ⟨by decide, by decide, by decide +kernel⟩ ⟨by rw [hRf]; exact Nat.le_of_ble_eq_true rfl, by rw [hRl]; exact Nat.le_of_ble_eq_true rfl⟩ rfl rfl (Nat.le_of_ble_eq_true rfl) dX1_endsWith_4 (fun H locs cells slots hS => ?_)
  refine g_astore_n (l1 := [(2, .inr (.inr (some z0.1))), (0, .inr (.inr (some t))), (1, .inr (.inr v1))]) hx hb hl (by decide) rfl dX1_endsWith_7 (fun ls hl => ?_)
  refine g_aload_n hx hb hl 0 rfl dX1_endsWith_8 ?_
  refine g_aload_n hx hb hl 2 rfl dX1_endsWith_9 ?_
  obtain ⟨b10, hb10, h⟩ := g_bnd h
  obtain ⟨hr10, hk10⟩ := g_chk hb10
  obtain ⟨z10, h10, h⟩ := g_bnd h
  refine g_callV (n := 0) (b := b10) (av := []) (rs := [.inr (.inr (some z0.1))]) hx hb hml hown hts hKn hRc hRs hS hl (sX3_kind l E D h10) (lw_V q985 q986 q987 q134 q988) ⟨rfl, by decide, by decide, by decide +kernel⟩ ⟨by rw [hRf]; exact Nat.le_of_ble_eq_true rfl, by rw [hRl]; exact Nat.le_of_ble_eq_true rfl⟩ (g_recv hKn hS hk10 (by decide) (by decide)) rfl (by rw [hr10]; rfl) (Nat.le_of_ble_eq_true rfl) dX1_endsWith_10 (fun H locs cells slots hS => ?_)
  refine g_ptI hx hb hown hts hKn hS h fd_7_7_0 (Or.inr ⟨rfl, _, gNest_use rfl (hKn.2.2.2.2.1 _ (gNest_in q969 rfl))⟩) (fun _ z => z) (fun z => nomatch z) dX1_endsWith_13 (fun G13 h H locs hS => ?_)
  refine g_aload_n hx hb hl 0 rfl dX1_endsWith_16 ?_
  refine g_aload_n hx hb hl 2 rfl dX1_endsWith_17 ?_
  refine g_rdI hx hb hown hts hKn hS h fd_3_3_1 rfl (Or.inr ⟨_, gNest_use rfl (hKn.2.2.2.2.1 _ (gNest_in q541 rfl))⟩) (fun _ z => z) dX1_endsWith_18 (fun x18 h => ?_)
  refine g_ptI hx hb hown hts hKn hS h fd_7_7_1 (Or.inr ⟨rfl, _, gNest_use rfl (hKn.2.2.2.2.1 _ (gNest_in q971 rfl))⟩) (fun _ z => z) (fun z => nomatch z) dX1_endsWith_21 (fun G21 h H locs hS => ?_)
  refine g_aload_n hx hb hl 0 rfl dX1_endsWith_24 ?_
  refine g_aload_n hx hb hl 2 rfl dX1_endsWith_25 ?_
  obtain ⟨b26, hb26, h⟩ := g_bnd h
  obtain ⟨hr26, hk26⟩ := g_chk hb26
  obtain ⟨z26, h26, h⟩ := g_bnd h
  refine g_callV (n := 0) (b := b26) (av := []) (rs := [.inr (.inr (some z0.1))]) hx hb hml hown hts hKn hRc hRs hS hl (sX3_bits l E D h26) (lw_V q994 q990 q991 q134 q992) ⟨rfl, by decide, by decide, by decide +kernel⟩ ⟨by rw [hRf]; exact Nat.le_of_ble_eq_true rfl, by rw [hRl]; exact Nat.le_of_ble_eq_true rfl⟩ (g_recv hKn hS hk26 (by decide) (by decide)) rfl (by rw [hr26]; rfl) (Nat.le_of_ble_eq_true rfl) dX1_endsWith_26 (fun H locs cells slots hS => ?_)
  refine g_ptI hx hb hown hts hKn hS h fd_7_7_2 (Or.inr ⟨rfl, _, gNest_use rfl (hKn.2.2.2.2.1 _ (gNest_in q973 rfl))⟩) (fun _ z => z) (fun z => nomatch z) dX1_endsWith_29 (fun G29 h H locs hS => ?_)
  refine lv_iconst (v := 0) hx hb dX1_endsWith_32 (by decide) ?_
  refine g_istore_n (l1 := [(3, .inl 0), (2, .inr (.inr (some z0.1))), (0, .inr (.inr (some t))), (1, .inr (.inr v1))]) hx hb hl (by decide) rfl dX1_endsWith_33 (fun ls hl => ?_)
  exact sX1_endsWith_b34 C gFU _ _ _ _ _ _ h _ _ _ _ _ hS (gls_sub hl [2, 3, 1, 0] rfl)
/-- SendHall.goes(LSendHall$Life;ILSendHall$Step;)V -/
def fX1_goes_b67 (E : g_E) (v1 : Option Nat) (v2 : Int32) (v4 : Option Nat) (G : g_G) : Option (g_G) :=
  (grR G 3 3 v1 3).bind fun x68 =>
  (gsaR E G 122 x68 v2 v4).bind fun G74 =>
  some G74
def fX1_goes_b58 (E : g_E) (k6 : Nat → (Option Nat) → Int32 → (Option Nat) → Int32 → g_G → Option (g_G)) (t : Nat) (v1 : Option Nat) (v2 : Int32) (v6 : Option Nat) (s0 : Int32) (G : g_G) : Option (g_G) :=
  k6 t v1 v2 v6 s0 G
def fX1_goes_b44 (E : g_E) (k6 : Nat → (Option Nat) → Int32 → (Option Nat) → Int32 → g_G → Option (g_G)) (t : Nat) (v1 : Option Nat) (v2 : Int32) (v4 : Option Nat) (s0 : Option Nat) (G : g_G) : Option (g_G) :=
  if s0 = v4 then (
    fX1_goes_b58 E k6 t v1 v2 s0 0 G)
  else (
    fX1_goes_b58 E k6 t v1 v2 s0 1 G)
def fX1_goes_b6 (E : g_E) : Nat → Nat → (Option Nat) → Int32 → (Option Nat) → Int32 → g_G → Option (g_G)
  | 0, _, _, _, _, _, _ => none
  | n + 1, t, v1, v2, v4, v5, G =>
    if v5 = 0 then (
      fX1_goes_b67 E v1 v2 v4 G)
    else (
      if v4 = none then (
        fX1_goes_b67 E v1 v2 v4 G)
      else (
        (grR G 1 1 (some t) 5).bind fun x17 =>
        (grI G 11 16 v4 1).bind fun x22 =>
        (gaI G 102 x17 x22).bind fun x25 =>
        if x25 = 0 then (
          (fV_comes E v4 v1 v2 G).bind fun z41 =>
          fX1_goes_b44 E (fX1_goes_b6 E n) t v1 v2 v4 z41.1 z41.2)
        else (
          (grR G 11 16 v4 2).bind fun x31 =>
          fX1_goes_b44 E (fX1_goes_b6 E n) t v1 v2 v4 x31 G)))
def fX1_goes (E : g_E) (t : Nat) (v1 : Option Nat) (v2 : Int32) (v3 : Option Nat) (G : g_G) : Option (g_G) :=
  fX1_goes_b6 E gFU t v1 v2 v3 1 G
theorem sX1_goes_b67 {p : Program} {l : Launch} {e : Env} {R : Room} {s : State} {m : MethodId} {args : Array Value} {below : List Frame} {meth : Method} {c : Code} {E : g_E} {D : g_D} (C : gC p R s m args meth c cX1_goes 7 RX1 "goes" (none) 220 7355 E D) : ∀ (v1 : Option Nat) (v2 : Int32) (v4 : Option Nat) (G : g_G) (q : g_G), fX1_goes_b67 E v1 v2 v4 G = some q → ∀ (H : Heap) (locs : List Loc) (cells slots : Nat) (ls : Array Slot), gSt E D G H locs → gls ls 7 [(1, .inr (.inr v1)), (2, .inl v2), (4, .inr (.inr v4))] → gT p l e R s m args below meth c E D H locs cells slots none q (F0 m 67 ls []) := by
  obtain ⟨hx, hb, hml, hown, hts, hKn, hRc, hRs, hc1, hc2, hRf, hRl, hr, hlk, hnm⟩ := id C
  intro v1 v2 v4 G q h H locs cells slots ls hS hl
  unfold fX1_goes_b67 at h
  refine g_aload_n hx hb hl 0 rfl dX1_goes_67 ?_
  refine g_rdR hx hb hown hts hKn hS h fd_3_3_3 rfl (Or.inr ⟨_, gNest_use rfl (hKn.2.2.2.2.1 _ (gNest_in q545 rfl))⟩) (fun _ z => z) dX1_goes_68 (fun x68 h => ?_)
  refine g_iload_n hx hb hl 1 rfl dX1_goes_71 ?_
  refine g_aload hx hb hl 2 rfl dX1_goes_72 ?_
  refine g_aastoreG hx hb hKn hS h (by decide) dX1_goes_74 (fun G74 h H locs hS => ?_)
  exact g_vretG hx hb hr hlk hKn hRc hRs hS h dX1_goes_75
theorem sX1_goes_b58 {p : Program} {l : Launch} {e : Env} {R : Room} {s : State} {m : MethodId} {args : Array Value} {below : List Frame} {meth : Method} {c : Code} {E : g_E} {D : g_D} (C : gC p R s m args meth c cX1_goes 7 RX1 "goes" (none) 220 7355 E D) {k6 : Nat → (Option Nat) → Int32 → (Option Nat) → Int32 → g_G → Option (g_G)} (hk6 : ∀ (t : Nat) (v1 : Option Nat) (v2 : Int32) (v4 : Option Nat) (v5 : Int32) (G : g_G) (q : g_G), k6 t v1 v2 v4 v5 G = some q → ∀ (H : Heap) (locs : List Loc) (cells slots : Nat) (ls : Array Slot), gSt E D G H locs → gls ls 7 [(0, .inr (.inr (some t))), (1, .inr (.inr v1)), (2, .inl v2), (4, .inr (.inr v4)), (5, .inl v5)] → gT p l e R s m args below meth c E D H locs cells slots none q (F0 m 6 ls [])) : ∀ (t : Nat) (v1 : Option Nat) (v2 : Int32) (v6 : Option Nat) (s0 : Int32) (G : g_G) (q : g_G), fX1_goes_b58 E k6 t v1 v2 v6 s0 G = some q → ∀ (H : Heap) (locs : List Loc) (cells slots : Nat) (ls : Array Slot), gSt E D G H locs → gls ls 7 [(0, .inr (.inr (some t))), (1, .inr (.inr v1)), (2, .inl v2), (6, .inr (.inr v6))] → gT p l e R s m args below meth c E D H locs cells slots none q (F0 m 58 ls [.int s0]) := by
  obtain ⟨hx, hb, hml, hown, hts, hKn, hRc, hRs, hc1, hc2, hRf, hRl, hr, hlk, hnm⟩ := id C
  intro t v1 v2 v6 s0 G q h H locs cells slots ls hS hl
  unfold fX1_goes_b58 at h
  refine g_istore (l1 := [(5, .inl s0), (0, .inr (.inr (some t))), (1, .inr (.inr v1)), (2, .inl v2), (6, .inr (.inr v6))]) hx hb hl (by decide) rfl dX1_goes_58 (fun ls hl => ?_)
  refine g_aload hx hb hl 4 rfl dX1_goes_60 ?_
  refine g_astore (l1 := [(4, .inr (.inr v6)), (5, .inl s0), (0, .inr (.inr (some t))), (1, .inr (.inr v1)), (2, .inl v2), (6, .inr (.inr v6))]) hx hb hl (by decide) rfl dX1_goes_62 (fun ls hl => ?_)
  refine lv_goto (tgt := 6) hx hb dX1_goes_64 (by decide) ?_
  exact hk6 _ _ _ _ _ _ _ h _ _ _ _ _ hS (gls_sub hl [2, 3, 4, 0, 1] rfl)
theorem sX1_goes_b44 {p : Program} {l : Launch} {e : Env} {R : Room} {s : State} {m : MethodId} {args : Array Value} {below : List Frame} {meth : Method} {c : Code} {E : g_E} {D : g_D} (C : gC p R s m args meth c cX1_goes 7 RX1 "goes" (none) 220 7355 E D) {k6 : Nat → (Option Nat) → Int32 → (Option Nat) → Int32 → g_G → Option (g_G)} (hk6 : ∀ (t : Nat) (v1 : Option Nat) (v2 : Int32) (v4 : Option Nat) (v5 : Int32) (G : g_G) (q : g_G), k6 t v1 v2 v4 v5 G = some q → ∀ (H : Heap) (locs : List Loc) (cells slots : Nat) (ls : Array Slot), gSt E D G H locs → gls ls 7 [(0, .inr (.inr (some t))), (1, .inr (.inr v1)), (2, .inl v2), (4, .inr (.inr v4)), (5, .inl v5)] → gT p l e R s m args below meth c E D H locs cells slots none q (F0 m 6 ls [])) : ∀ (t : Nat) (v1 : Option Nat) (v2 : Int32) (v4 : Option Nat) (s0 : Option Nat) (G : g_G) (q : g_G), fX1_goes_b44 E k6 t v1 v2 v4 s0 G = some q → ∀ (H : Heap) (locs : List Loc) (cells slots : Nat) (ls : Array Slot), gSt E D G H locs → gls ls 7 [(0, .inr (.inr (some t))), (1, .inr (.inr v1)), (2, .inl v2), (4, .inr (.inr v4))] → gT p l e R s m args below meth c E D H locs cells slots none q (F0 m 44 ls [va_rf s0]) := by
  obtain ⟨hx, hb, hml, hown, hts, hKn, hRc, hRs, hc1, hc2, hRf, hRl, hr, hlk, hnm⟩ := id C
  intro t v1 v2 v4 s0 G q h H locs cells slots ls hS hl
  unfold fX1_goes_b44 at h
  refine g_astore (l1 := [(6, .inr (.inr s0)), (0, .inr (.inr (some t))), (1, .inr (.inr v1)), (2, .inl v2), (4, .inr (.inr v4))]) hx hb hl (by decide) rfl dX1_goes_44 (fun ls hl => ?_)
  refine g_aload hx hb hl 0 rfl dX1_goes_46 ?_
  refine g_aload hx hb hl 4 rfl dX1_goes_48 ?_
  refine lv_acmp_eq (tgt := 57) hx hb dX1_goes_50 (by decide) (fun c_50 => ?_) (fun c_50 => ?_)
  · have h := g_ift c_50 h
    refine lv_iconst (v := 0) hx hb dX1_goes_57 (by decide) ?_
    exact sX1_goes_b58 C hk6 _ _ _ _ _ _ _ h _ _ _ _ _ hS (gls_sub hl [1, 2, 3, 0] rfl)
  · have h := g_iff c_50 h
    refine lv_iconst (v := 1) hx hb dX1_goes_53 (by decide) ?_
    refine lv_goto (tgt := 58) hx hb dX1_goes_54 (by decide) ?_
    exact sX1_goes_b58 C hk6 _ _ _ _ _ _ _ h _ _ _ _ _ hS (gls_sub hl [1, 2, 3, 0] rfl)
theorem sX1_goes_b6 {p : Program} {l : Launch} {e : Env} {R : Room} {s : State} {m : MethodId} {args : Array Value} {below : List Frame} {meth : Method} {c : Code} {E : g_E} {D : g_D} (C : gC p R s m args meth c cX1_goes 7 RX1 "goes" (none) 220 7355 E D) : ∀ (n : Nat) (t : Nat) (v1 : Option Nat) (v2 : Int32) (v4 : Option Nat) (v5 : Int32) (G : g_G) (q : g_G), fX1_goes_b6 E n t v1 v2 v4 v5 G = some q → ∀ (H : Heap) (locs : List Loc) (cells slots : Nat) (ls : Array Slot), gSt E D G H locs → gls ls 7 [(0, .inr (.inr (some t))), (1, .inr (.inr v1)), (2, .inl v2), (4, .inr (.inr v4)), (5, .inl v5)] → gT p l e R s m args below meth c E D H locs cells slots none q (F0 m 6 ls []) := by
  obtain ⟨hx, hb, hml, hown, hts, hKn, hRc, hRs, hc1, hc2, hRf, hRl, hr, hlk, hnm⟩ := id C
  intro n
  induction n with
  | zero =>
    intro t v1 v2 v4 v5 G q h
    exact g_no h
  | succ n ih =>
    intro t v1 v2 v4 v5 G q h H locs cells slots ls hS hl
    rw [fX1_goes_b6] at h
    refine g_iload hx hb hl 4 rfl dX1_goes_6 ?_
    refine lv_if_eq (tgt := 67) hx hb dX1_goes_8 (by decide) (fun c_8 => ?_) (fun c_8 => ?_)
    · have h := g_ift c_8 h
      exact sX1_goes_b67 C _ _ _ _ _ h _ _ _ _ _ hS (gls_sub hl [1, 2, 3] rfl)
    · have h := g_iff c_8 h
      refine g_aload hx hb hl 3 rfl dX1_goes_11 ?_
      refine g_ifnull (tgt := 67) hx hb dX1_goes_13 (by decide) (fun c_13 => ?_) (fun c_13 => ?_)
      · have h := g_ift c_13 h
        exact sX1_goes_b67 C _ _ _ _ _ h _ _ _ _ _ hS (gls_sub hl [1, 2, 3] rfl)
      · have h := g_iff c_13 h
        refine g_aload_n hx hb hl 0 rfl dX1_goes_16 ?_
        refine g_rdR hx hb hown hts hKn hS h fd_1_1_5 rfl (Or.inl (hts _ q602)) (fun _ z => z) dX1_goes_17 (fun x17 h => ?_)
        refine g_aload hx hb hl 3 rfl dX1_goes_20 ?_
        refine g_rdI hx hb hown hts hKn hS h fd_11_16_1 rfl (Or.inl (hts _ q1428)) (fun _ z => z) dX1_goes_22 (fun x22 h => ?_)
        refine g_zaloadG hx hb hKn hS h dX1_goes_25 (fun x25 h => ?_)
        refine lv_if_eq (tgt := 37) hx hb dX1_goes_26 (by decide) (fun c_26 => ?_) (fun c_26 => ?_)
        · have h := g_ift c_26 h
          refine g_aload hx hb hl 3 rfl dX1_goes_37 ?_
          refine g_aload_n hx hb hl 1 rfl dX1_goes_39 ?_
          refine g_iload_n hx hb hl 2 rfl dX1_goes_40 ?_
          obtain ⟨z41, h41, h⟩ := g_bnd h
          refine g_comesV (rs := []) hx hb hml hown hts hKn hRc hRs hS hl h41 ⟨by rw [hRf]; exact Nat.le_of_ble_eq_true rfl, by rw [hRl]; exact Nat.le_of_ble_eq_true rfl⟩ rfl (Nat.le_of_ble_eq_true rfl) dX1_goes_41 (fun H locs cells slots hS => ?_)
          exact sX1_goes_b44 C ih _ _ _ _ _ _ _ h _ _ _ _ _ hS (gls_sub hl [0, 1, 2, 3] rfl)
        · have h := g_iff c_26 h
          refine g_aload hx hb hl 3 rfl dX1_goes_29 ?_
          refine g_rdR hx hb hown hts hKn hS h fd_11_16_2 rfl (Or.inl (hts _ q1430)) (fun _ z => z) dX1_goes_31 (fun x31 h => ?_)
          refine lv_goto (tgt := 44) hx hb dX1_goes_34 (by decide) ?_
          exact sX1_goes_b44 C ih _ _ _ _ _ _ _ h _ _ _ _ _ hS (gls_sub hl [0, 1, 2, 3] rfl)
theorem sX1_goes (l : Launch) (E : g_E) (D : g_D) {t : Nat} {v1 : Option Nat} {v2 : Int32} {v3 : Option Nat} {G : g_G} {q : g_G} (h : fX1_goes E t v1 v2 v3 G = some q) : gMet l E D yX1_goes (ws_ yX1_goes cX1_goes 7 (none)) 220 7355 [.inr (.inr (some t)), .inr (.inr v1), .inl v2, .inr (.inr v3)] G none q := by
  refine gMet.of (by decide +kernel) (Nat.le_of_ble_eq_true rfl) ?_
  intro p e R s m args below meth c C hS ls hl
  have C : gC p R s m args meth c cX1_goes 7 RX1 "goes" (none) 220 7355 E D := C
  obtain ⟨hx, hb, hml, hown, hts, hKn, hRc, hRs, hc1, hc2, hRf, hRl, hr, hlk, hnm⟩ := id C
  have hl : gls ls 7 [(0, .inr (.inr (some t))), (1, .inr (.inr v1)), (2, .inl v2), (3, .inr (.inr v3))] := hl
  generalize s.heap = H at hS ⊢
  unfold fX1_goes at h
  refine g_aload_n hx hb hl 3 rfl dX1_goes_0 ?_
  refine g_astore (l1 := [(4, .inr (.inr v3)), (0, .inr (.inr (some t))), (1, .inr (.inr v1)), (2, .inl v2), (3, .inr (.inr v3))]) hx hb hl (by decide) rfl dX1_goes_1 (fun ls hl => ?_)
  refine lv_iconst (v := 1) hx hb dX1_goes_3 (by decide) ?_
  refine g_istore (l1 := [(5, .inl 1), (4, .inr (.inr v3)), (0, .inr (.inr (some t))), (1, .inr (.inr v1)), (2, .inl v2), (3, .inr (.inr v3))]) hx hb hl (by decide) rfl dX1_goes_4 (fun ls hl => ?_)
  exact sX1_goes_b6 C gFU _ _ _ _ _ _ _ h _ _ _ _ _ hS (gls_sub hl [2, 3, 4, 1, 0] rfl)
