set_option maxRecDepth 100000
/-- SendHallModel.two(III)I -/
def fX4_two (E : g_E) (v0 : Int32) (v1 : Int32) (v2 : Int32) (G : g_G) : Option (Int32 × g_G) :=
  if v0 = 1 then (
    some ((v1 + v2), G))
  else
  if v0 = 2 then (
    some ((v1 - v2), G))
  else
  if v0 = 3 then (
    some ((v1 * v2), G))
  else
  if v0 = 4 then (
    if ¬ v2 = 0 then (
      if v2 = 0 then none else
      some ((v1 / v2), G))
    else (
      some (0, G)))
  else
  if v0 = 5 then (
    if v2 ≤ v1 then (
      some (0, G))
    else (
      some (1, G)))
  else
  (
    if ¬ v1 = v2 then (
      some (0, G))
    else (
      some (1, G)))
theorem sX4_two (l : Launch) (E : g_E) (D : g_D) {v0 : Int32} {v1 : Int32} {v2 : Int32} {G : g_G} {q : Int32 × g_G} (h : fX4_two E v0 v1 v2 G = some q) : gMet l E D yX4_two (ws_ yX4_two cX4_two 3 (some .int)) 1 64 [.inl v0, .inl v1, .inl v2] G (some (.int q.1)) q.2 := by
  refine gMet.of (by decide +kernel) (Nat.le_of_ble_eq_true rfl) ?_
  intro p e R s m args below meth c C hS ls hl
  have C : gC p R s m args meth c cX4_two 3 RX4 "two" (some .int) 1 64 E D := C
  obtain ⟨hx, hb, hml, hown, hts, hKn, hRc, hRs, hc1, hc2, hRf, hRl, hr, hlk, hnm⟩ := id C
  have hl : gls ls 3 [(0, .inl v0), (1, .inl v1), (2, .inl v2)] := hl
  generalize s.heap = H at hS ⊢
  unfold fX4_two at h
  refine g_iload_n hx hb hl 0 rfl dX4_two_0 ?_
  by_cases w1_0 : v0 = 1
  · refine lv_tableIn (tgt := 36) (off := 35) hx hb dX4_two_1 (by rw [w1_0]; decide) (by rw [w1_0]; decide) (by rw [w1_0]; decide) (by decide) ?_
    have h := g_ift w1_0 h
    refine g_iload_n hx hb hl 1 rfl dX4_two_36 ?_
    refine g_iload_n hx hb hl 2 rfl dX4_two_37 ?_
    refine lv_iadd hx hb dX4_two_38 ?_
    exact g_iretG hx hb hr hlk hKn hRc hRs hS h dX4_two_39
  have h := g_iff w1_0 h
  by_cases w1_1 : v0 = 2
  · refine lv_tableIn (tgt := 40) (off := 39) hx hb dX4_two_1 (by rw [w1_1]; decide) (by rw [w1_1]; decide) (by rw [w1_1]; decide) (by decide) ?_
    have h := g_ift w1_1 h
    refine g_iload_n hx hb hl 1 rfl dX4_two_40 ?_
    refine g_iload_n hx hb hl 2 rfl dX4_two_41 ?_
    refine lv_isub hx hb dX4_two_42 ?_
    exact g_iretG hx hb hr hlk hKn hRc hRs hS h dX4_two_43
  have h := g_iff w1_1 h
  by_cases w1_2 : v0 = 3
  · refine lv_tableIn (tgt := 44) (off := 43) hx hb dX4_two_1 (by rw [w1_2]; decide) (by rw [w1_2]; decide) (by rw [w1_2]; decide) (by decide) ?_
    have h := g_ift w1_2 h
    refine g_iload_n hx hb hl 1 rfl dX4_two_44 ?_
    refine g_iload_n hx hb hl 2 rfl dX4_two_45 ?_
    refine lv_imul hx hb dX4_two_46 ?_
    exact g_iretG hx hb hr hlk hKn hRc hRs hS h dX4_two_47
  have h := g_iff w1_2 h
  by_cases w1_3 : v0 = 4
  · refine lv_tableIn (tgt := 48) (off := 47) hx hb dX4_two_1 (by rw [w1_3]; decide) (by rw [w1_3]; decide) (by rw [w1_3]; decide) (by decide) ?_
    have h := g_ift w1_3 h
    refine g_iload_n hx hb hl 2 rfl dX4_two_48 ?_
    refine lv_if_ne (tgt := 56) hx hb dX4_two_49 (by decide) (fun c_49 => ?_) (fun c_49 => ?_)
    · have h := g_ift c_49 h
      refine g_iload_n hx hb hl 1 rfl dX4_two_56 ?_
      refine g_iload_n hx hb hl 2 rfl dX4_two_57 ?_
      by_cases hz58 : v2 = 0
      · exact g_no (g_ift hz58 h)
      have h := g_iff hz58 h
      refine lv_idiv hx hb dX4_two_58 hz58 ?_
      exact g_iretG hx hb hr hlk hKn hRc hRs hS h dX4_two_59
    · have h := g_iff (fun z => z c_49) h
      refine lv_iconst (v := 0) hx hb dX4_two_52 (by decide) ?_
      refine lv_goto (tgt := 59) hx hb dX4_two_53 (by decide) ?_
      exact g_iretG hx hb hr hlk hKn hRc hRs hS h dX4_two_59
  have h := g_iff w1_3 h
  by_cases w1_4 : v0 = 5
  · refine lv_tableIn (tgt := 60) (off := 59) hx hb dX4_two_1 (by rw [w1_4]; decide) (by rw [w1_4]; decide) (by rw [w1_4]; decide) (by decide) ?_
    have h := g_ift w1_4 h
    refine g_iload_n hx hb hl 1 rfl dX4_two_60 ?_
    refine g_iload_n hx hb hl 2 rfl dX4_two_61 ?_
    refine lv_icmp_ge (tgt := 69) hx hb dX4_two_62 (by decide) (fun c_62 => ?_) (fun c_62 => ?_)
    · have h := g_ift c_62 h
      refine lv_iconst (v := 0) hx hb dX4_two_69 (by decide) ?_
      exact g_iretG hx hb hr hlk hKn hRc hRs hS h dX4_two_70
    · have h := g_iff c_62 h
      refine lv_iconst (v := 1) hx hb dX4_two_65 (by decide) ?_
      refine lv_goto (tgt := 70) hx hb dX4_two_66 (by decide) ?_
      exact g_iretG hx hb hr hlk hKn hRc hRs hS h dX4_two_70
  have h := g_iff w1_4 h
  refine g_tableD (tgt := 71) hx hb dX4_two_1 (by decide) [1, 2, 3, 4, 5] (by decide) (fun k hk => ?_) ?_
  · simp only [List.mem_cons, List.not_mem_nil, or_false] at hk
    rcases hk with rfl | rfl | rfl | rfl | rfl
    · exact w1_0
    · exact w1_1
    · exact w1_2
    · exact w1_3
    · exact w1_4
  refine g_iload_n hx hb hl 1 rfl dX4_two_71 ?_
  refine g_iload_n hx hb hl 2 rfl dX4_two_72 ?_
  refine lv_icmp_ne (tgt := 80) hx hb dX4_two_73 (by decide) (fun c_73 => ?_) (fun c_73 => ?_)
  · have h := g_ift c_73 h
    refine lv_iconst (v := 0) hx hb dX4_two_80 (by decide) ?_
    exact g_iretG hx hb hr hlk hKn hRc hRs hS h dX4_two_81
  · have h := g_iff (fun z => z c_73) h
    refine lv_iconst (v := 1) hx hb dX4_two_76 (by decide) ?_
    refine lv_goto (tgt := 81) hx hb dX4_two_77 (by decide) ?_
    exact g_iretG hx hb hr hlk hKn hRc hRs hS h dX4_two_81
/-- SendHallModel.upTo(II)V -/
def fX4_upTo (E : g_E) (t : Nat) (v1 : Int32) (v2 : Int32) (G : g_G) : Option (g_G) :=
  (grR G 4 4 (some t) 36).bind fun x3 =>
  (gaI G 100 x3 v1).bind fun x7 =>
  (grR G 4 4 (some t) 37).bind fun x14 =>
  (gaI G 100 x14 v1).bind fun x19 =>
  (gsaI E G x14 v1 (x19 + (if 0 < (v2 - x7) then (v2 - x7) else 0))).bind fun G22 =>
  (grR G22 4 4 (some t) 36).bind fun x24 =>
  (gaI G22 100 x24 v1).bind fun x29 =>
  (gsaI E G22 x24 v1 (x29 + (if 0 < (v2 - x7) then (v2 - x7) else 0))).bind fun G32 =>
  some G32
theorem sX4_upTo (l : Launch) (E : g_E) (D : g_D) {t : Nat} {v1 : Int32} {v2 : Int32} {G : g_G} {q : g_G} (h : fX4_upTo E t v1 v2 G = some q) : gMet l E D yX4_upTo (ws_ yX4_upTo cX4_upTo 4 (none)) 1 64 [.inr (.inr (some t)), .inl v1, .inl v2] G none q := by
  refine gMet.of (by decide +kernel) (Nat.le_of_ble_eq_true rfl) ?_
  intro p e R s m args below meth c C hS ls hl
  have C : gC p R s m args meth c cX4_upTo 4 RX4 "upTo" (none) 1 64 E D := C
  obtain ⟨hx, hb, hml, hown, hts, hKn, hRc, hRs, hc1, hc2, hRf, hRl, hr, hlk, hnm⟩ := id C
  have hl : gls ls 4 [(0, .inr (.inr (some t))), (1, .inl v1), (2, .inl v2)] := hl
  generalize s.heap = H at hS ⊢
  unfold fX4_upTo at h
  refine lv_iconst (v := 0) hx hb dX4_upTo_0 (by decide) ?_
  refine g_iload_n hx hb hl 2 rfl dX4_upTo_1 ?_
  refine g_aload_n hx hb hl 0 rfl dX4_upTo_2 ?_
  refine g_rdR hx hb hown hts hKn hS h fd_4_4_36 rfl (Or.inl (hts _ q1901)) (fun _ z => z) dX4_upTo_3 (fun x3 h => ?_)
  refine g_iload_n hx hb hl 1 rfl dX4_upTo_6 ?_
  refine g_ialoadG hx hb hKn hS h dX4_upTo_7 (fun x7 h => ?_)
  refine lv_isub hx hb dX4_upTo_8 ?_
  refine g_mmax (rs := []) hx hb hml hown hRc hRs hS hl (hts _ q2332) (hts _ q283) (hts _ q127) (hts _ q284) (by decide +kernel) rfl (Nat.le_of_ble_eq_true rfl) ⟨by rw [hRf]; exact Nat.le_of_ble_eq_true rfl, by rw [hRl]; exact Nat.le_of_ble_eq_true rfl⟩ dX4_upTo_9 (fun cells slots => ?_)
  refine g_istore_n (l1 := [(3, .inl (if 0 < (v2 - x7) then (v2 - x7) else 0)), (0, .inr (.inr (some t))), (1, .inl v1), (2, .inl v2)]) hx hb hl (by decide) rfl dX4_upTo_12 (fun ls hl => ?_)
  refine g_aload_n hx hb hl 1 rfl dX4_upTo_13 ?_
  refine g_rdR hx hb hown hts hKn hS h fd_4_4_37 rfl (Or.inl (hts _ q1902)) (fun _ z => z) dX4_upTo_14 (fun x14 h => ?_)
  refine g_iload_n hx hb hl 2 rfl dX4_upTo_17 ?_
  refine lv_dup2_11 hx hb dX4_upTo_18 rfl (by first | exact va_rf_cat _ | rfl | exact g_catA _) ?_
  refine g_ialoadG hx hb hKn hS h dX4_upTo_19 (fun x19 h => ?_)
  refine g_iload_n hx hb hl 0 rfl dX4_upTo_20 ?_
  refine lv_iadd hx hb dX4_upTo_21 ?_
  refine g_iastoreG hx hb hKn hS h dX4_upTo_22 (fun G22 h H locs hS => ?_)
  refine g_aload_n hx hb hl 1 rfl dX4_upTo_23 ?_
  refine g_rdR hx hb hown hts hKn hS h fd_4_4_36 rfl (Or.inl (hts _ q1901)) (fun _ z => z) dX4_upTo_24 (fun x24 h => ?_)
  refine g_iload_n hx hb hl 2 rfl dX4_upTo_27 ?_
  refine lv_dup2_11 hx hb dX4_upTo_28 rfl (by first | exact va_rf_cat _ | rfl | exact g_catA _) ?_
  refine g_ialoadG hx hb hKn hS h dX4_upTo_29 (fun x29 h => ?_)
  refine g_iload_n hx hb hl 0 rfl dX4_upTo_30 ?_
  refine lv_iadd hx hb dX4_upTo_31 ?_
  refine g_iastoreG hx hb hKn hS h dX4_upTo_32 (fun G32 h H locs hS => ?_)
  exact g_vretG hx hb hr hlk hKn hRc hRs hS h dX4_upTo_33
/-- SendHallModel.used(I)I -/
def fX4_used (E : g_E) (t : Nat) (v1 : Int32) (G : g_G) : Option (Int32 × g_G) :=
  (grR G 4 4 (some t) 43).bind fun x5 =>
  (gaI G 100 x5 ((1985 * v1) + 64)).bind fun x16 =>
  some ((65 + (6 * x16)), G)
theorem sX4_used (l : Launch) (E : g_E) (D : g_D) {t : Nat} {v1 : Int32} {G : g_G} {q : Int32 × g_G} (h : fX4_used E t v1 G = some q) : gMet l E D yX4_used (ws_ yX4_used cX4_used 2 (some .int)) 1 64 [.inr (.inr (some t)), .inl v1] G (some (.int q.1)) q.2 := by
  refine gMet.of (by decide +kernel) (Nat.le_of_ble_eq_true rfl) ?_
  intro p e R s m args below meth c C hS ls hl
  have C : gC p R s m args meth c cX4_used 2 RX4 "used" (some .int) 1 64 E D := C
  obtain ⟨hx, hb, hml, hown, hts, hKn, hRc, hRs, hc1, hc2, hRf, hRl, hr, hlk, hnm⟩ := id C
  have hl : gls ls 2 [(0, .inr (.inr (some t))), (1, .inl v1)] := hl
  generalize s.heap = H at hS ⊢
  unfold fX4_used at h
  refine lv_bipush (v := 65) hx hb dX4_used_0 (by decide) ?_
  refine lv_bipush (v := 6) hx hb dX4_used_2 (by decide) ?_
  refine g_aload_n hx hb hl 0 rfl dX4_used_4 ?_
  refine g_rdR hx hb hown hts hKn hS h fd_4_4_43 rfl (Or.inl (hts _ q1908)) (fun _ z => z) dX4_used_5 (fun x5 h => ?_)
  refine lv_sipush (v := 1985) hx hb dX4_used_8 (by decide) ?_
  refine g_iload_n hx hb hl 1 rfl dX4_used_11 ?_
  refine lv_imul hx hb dX4_used_12 ?_
  refine lv_bipush (v := 64) hx hb dX4_used_13 (by decide) ?_
  refine lv_iadd hx hb dX4_used_15 ?_
  refine g_ialoadG hx hb hKn hS h dX4_used_16 (fun x16 h => ?_)
  refine lv_imul hx hb dX4_used_17 ?_
  refine lv_iadd hx hb dX4_used_18 ?_
  exact g_iretG hx hb hr hlk hKn hRc hRs hS h dX4_used_19
/-- SendHallModel.valueOf(II)I -/
def fX4_valueOf (E : g_E) (t : Nat) (v1 : Int32) (v2 : Int32) (G : g_G) : Option (Int32 × g_G) :=
  if (4 : Int32) ≤ v2 then (
    if ¬ v2 = (4 : Int32) then (
      if ¬ v2 = (5 : Int32) then (
        (gchk G 4 (some t)).bind fun b41 =>
        (fX4_own E b41 v1 6 G).bind fun z41 =>
        some (z41.1, z41.2))
      else (
        (grI G 4 4 (some t) 3).bind fun x31 =>
        some (x31, G)))
    else (
      some (v1, G)))
  else (
    (gchk G 4 (some t)).bind fun b10 =>
    (fX4_own E b10 v1 (2 + v2) G).bind fun z10 =>
    some (z10.1, z10.2))
theorem sX4_valueOf (l : Launch) (E : g_E) (D : g_D) {t : Nat} {v1 : Int32} {v2 : Int32} {G : g_G} {q : Int32 × g_G} (h : fX4_valueOf E t v1 v2 G = some q) : gMet l E D yX4_valueOf (ws_ yX4_valueOf cX4_valueOf 3 (some .int)) 2 86 [.inr (.inr (some t)), .inl v1, .inl v2] G (some (.int q.1)) q.2 := by
  refine gMet.of (by decide +kernel) (Nat.le_of_ble_eq_true rfl) ?_
  intro p e R s m args below meth c C hS ls hl
  have C : gC p R s m args meth c cX4_valueOf 3 RX4 "valueOf" (some .int) 2 86 E D := C
  obtain ⟨hx, hb, hml, hown, hts, hKn, hRc, hRs, hc1, hc2, hRf, hRl, hr, hlk, hnm⟩ := id C
  have hl : gls ls 3 [(0, .inr (.inr (some t))), (1, .inl v1), (2, .inl v2)] := hl
  generalize s.heap = H at hS ⊢
  unfold fX4_valueOf at h
  refine g_iload_n hx hb hl 2 rfl dX4_valueOf_0 ?_
  refine lv_iconst (v := 4) hx hb dX4_valueOf_1 (by decide) ?_
  refine lv_icmp_ge (tgt := 16) hx hb dX4_valueOf_2 (by decide) (fun c_2 => ?_) (fun c_2 => ?_)
  · have h := g_ift c_2 h
    refine g_iload_n hx hb hl 2 rfl dX4_valueOf_16 ?_
    refine lv_iconst (v := 4) hx hb dX4_valueOf_17 (by decide) ?_
    refine lv_icmp_ne (tgt := 25) hx hb dX4_valueOf_18 (by decide) (fun c_18 => ?_) (fun c_18 => ?_)
    · have h := g_ift c_18 h
      refine g_iload_n hx hb hl 2 rfl dX4_valueOf_25 ?_
      refine lv_iconst (v := 5) hx hb dX4_valueOf_26 (by decide) ?_
      refine lv_icmp_ne (tgt := 37) hx hb dX4_valueOf_27 (by decide) (fun c_27 => ?_) (fun c_27 => ?_)
      · have h := g_ift c_27 h
        refine g_aload_n hx hb hl 0 rfl dX4_valueOf_37 ?_
        refine g_iload_n hx hb hl 1 rfl dX4_valueOf_38 ?_
        refine lv_bipush (v := 6) hx hb dX4_valueOf_39 (by decide) ?_
        obtain ⟨b41, hb41, h⟩ := g_bnd h
        obtain ⟨hr41, hk41⟩ := g_chk hb41
        obtain ⟨z41, h41, h⟩ := g_bnd h
        refine g_callV (n := 2) (b := b41) (av := [.inl v1, .inl 6]) (rs := []) hx hb hml hown hts hKn hRc hRs hS hl (sX4_own l E D h41) (lw_V q2245 q2247 qs77 q135 q2248) ⟨rfl, by decide, by decide, by decide +kernel⟩ ⟨by rw [hRf]; exact Nat.le_of_ble_eq_true rfl, by rw [hRl]; exact Nat.le_of_ble_eq_true rfl⟩ (g_recv hKn hS hk41 (by decide) (by decide)) rfl (by rw [hr41]; rfl) (Nat.le_of_ble_eq_true rfl) dX4_valueOf_41 (fun H locs cells slots hS => ?_)
        exact g_iretG hx hb hr hlk hKn hRc hRs hS h dX4_valueOf_44
      · have h := g_iff (fun z => z c_27) h
        refine g_aload_n hx hb hl 0 rfl dX4_valueOf_30 ?_
        refine g_rdI hx hb hown hts hKn hS h fd_4_4_3 rfl (Or.inl (hts _ q1868)) (fun _ z => z) dX4_valueOf_31 (fun x31 h => ?_)
        refine lv_goto (tgt := 44) hx hb dX4_valueOf_34 (by decide) ?_
        exact g_iretG hx hb hr hlk hKn hRc hRs hS h dX4_valueOf_44
    · have h := g_iff (fun z => z c_18) h
      refine g_iload_n hx hb hl 1 rfl dX4_valueOf_21 ?_
      refine lv_goto (tgt := 44) hx hb dX4_valueOf_22 (by decide) ?_
      exact g_iretG hx hb hr hlk hKn hRc hRs hS h dX4_valueOf_44
  · have h := g_iff c_2 h
    refine g_aload_n hx hb hl 0 rfl dX4_valueOf_5 ?_
    refine g_iload_n hx hb hl 1 rfl dX4_valueOf_6 ?_
    refine lv_iconst (v := 2) hx hb dX4_valueOf_7 (by decide) ?_
    refine g_iload_n hx hb hl 2 rfl dX4_valueOf_8 ?_
    refine lv_iadd hx hb dX4_valueOf_9 ?_
    obtain ⟨b10, hb10, h⟩ := g_bnd h
    obtain ⟨hr10, hk10⟩ := g_chk hb10
    obtain ⟨z10, h10, h⟩ := g_bnd h
    refine g_callV (n := 2) (b := b10) (av := [.inl v1, .inl (2 + v2)]) (rs := []) hx hb hml hown hts hKn hRc hRs hS hl (sX4_own l E D h10) (lw_V q2245 q2247 qs77 q135 q2248) ⟨rfl, by decide, by decide, by decide +kernel⟩ ⟨by rw [hRf]; exact Nat.le_of_ble_eq_true rfl, by rw [hRl]; exact Nat.le_of_ble_eq_true rfl⟩ (g_recv hKn hS hk10 (by decide) (by decide)) rfl (by rw [hr10]; rfl) (Nat.le_of_ble_eq_true rfl) dX4_valueOf_10 (fun H locs cells slots hS => ?_)
    refine lv_goto (tgt := 44) hx hb dX4_valueOf_13 (by decide) ?_
    exact g_iretG hx hb hr hlk hKn hRc hRs hS h dX4_valueOf_44
/-- SendHallModel.wordAt(I)I -/
def fX4_wordAt (E : g_E) (v0 : Int32) (G : g_G) : Option (Int32 × g_G) :=
  some ((65 + (6 * v0)), G)
theorem sX4_wordAt (l : Launch) (E : g_E) (D : g_D) {v0 : Int32} {G : g_G} {q : Int32 × g_G} (h : fX4_wordAt E v0 G = some q) : gMet l E D yX4_wordAt (ws_ yX4_wordAt cX4_wordAt 1 (some .int)) 1 64 [.inl v0] G (some (.int q.1)) q.2 := by
  refine gMet.of (by decide +kernel) (Nat.le_of_ble_eq_true rfl) ?_
  intro p e R s m args below meth c C hS ls hl
  have C : gC p R s m args meth c cX4_wordAt 1 RX4 "wordAt" (some .int) 1 64 E D := C
  obtain ⟨hx, hb, hml, hown, hts, hKn, hRc, hRs, hc1, hc2, hRf, hRl, hr, hlk, hnm⟩ := id C
  have hl : gls ls 1 [(0, .inl v0)] := hl
  generalize s.heap = H at hS ⊢
  unfold fX4_wordAt at h
  refine lv_bipush (v := 65) hx hb dX4_wordAt_0 (by decide) ?_
  refine lv_bipush (v := 6) hx hb dX4_wordAt_2 (by decide) ?_
  refine g_iload_n hx hb hl 0 rfl dX4_wordAt_4 ?_
  refine lv_imul hx hb dX4_wordAt_5 ?_
  refine lv_iadd hx hb dX4_wordAt_6 ?_
  exact g_iretG hx hb hr hlk hKn hRc hRs hS h dX4_wordAt_7
/-- SendHallModel.words()I -/
def fX4_words (E : g_E) (t : Nat) (G : g_G) : Option (Int32 × g_G) :=
  (grR G 4 4 (some t) 33).bind fun x1 =>
  (gaI G 100 x1 64).bind fun x6 =>
  some (x6, G)
theorem sX4_words (l : Launch) (E : g_E) (D : g_D) {t : Nat} {G : g_G} {q : Int32 × g_G} (h : fX4_words E t G = some q) : gMet l E D yX4_words (ws_ yX4_words cX4_words 1 (some .int)) 1 64 [.inr (.inr (some t))] G (some (.int q.1)) q.2 := by
  refine gMet.of (by decide +kernel) (Nat.le_of_ble_eq_true rfl) ?_
  intro p e R s m args below meth c C hS ls hl
  have C : gC p R s m args meth c cX4_words 1 RX4 "words" (some .int) 1 64 E D := C
  obtain ⟨hx, hb, hml, hown, hts, hKn, hRc, hRs, hc1, hc2, hRf, hRl, hr, hlk, hnm⟩ := id C
  have hl : gls ls 1 [(0, .inr (.inr (some t)))] := hl
  generalize s.heap = H at hS ⊢
  unfold fX4_words at h
  refine g_aload_n hx hb hl 0 rfl dX4_words_0 ?_
  refine g_rdR hx hb hown hts hKn hS h fd_4_4_33 rfl (Or.inl (hts _ q1898)) (fun _ z => z) dX4_words_1 (fun x1 h => ?_)
  refine lv_bipush (v := 64) hx hb dX4_words_4 (by decide) ?_
  refine g_ialoadG hx hb hKn hS h dX4_words_6 (fun x6 h => ?_)
  exact g_iretG hx hb hr hlk hKn hRc hRs hS h dX4_words_7
/-- SendHallModel.world(IIII)Z -/
def fX4_world_b60 (E : g_E) (t : Nat) (v1 : Int32) (v2 : Int32) (v3 : Int32) (v4 : Int32) (G : g_G) : Option (Int32 × g_G) :=
  (gpI E G 4 4 (some t) 3 v1).bind fun G62 =>
  (gpI E G62 4 4 (some t) 4 v2).bind fun G67 =>
  (gpI E G67 4 4 (some t) 5 v3).bind fun G72 =>
  (gpI E G72 4 4 (some t) 6 v4).bind fun G78 =>
  (grI G78 4 4 (some t) 7).bind fun x83 =>
  (gpI E G78 4 4 (some t) 7 (x83 + 1)).bind fun G88 =>
  if (1 : Int32) = 0 ∨ (1 : Int32) = 1 then some (1, G88) else none
def fX4_world (E : g_E) (t : Nat) (v1 : Int32) (v2 : Int32) (v3 : Int32) (v4 : Int32) (G : g_G) : Option (Int32 × g_G) :=
  (gpI E G 4 4 (some t) 2 0).bind fun G2 =>
  (fX4_isIn E v1 2 8 G2).bind fun z9 =>
  if z9.1 = 0 then (
    if (0 : Int32) = 0 ∨ (0 : Int32) = 1 then some (0, z9.2) else none)
  else (
    (fX4_isIn E v2 0 3 z9.2).bind fun z18 =>
    if z18.1 = 0 then (
      if (0 : Int32) = 0 ∨ (0 : Int32) = 1 then some (0, z18.2) else none)
    else (
      (fX4_isIn E v3 0 99 z18.2).bind fun z28 =>
      if z28.1 = 0 then (
        if (0 : Int32) = 0 ∨ (0 : Int32) = 1 then some (0, z28.2) else none)
      else (
        (fX4_isIn E v4 0 99 z28.2).bind fun z39 =>
        if ¬ z39.1 = 0 then (
          (grI z39.2 4 4 (some t) 3).bind fun x49 =>
          if v1 = x49 then (
            fX4_world_b60 E t v1 v2 v3 v4 z39.2)
          else (
            (gpI E z39.2 4 4 (some t) 57 (-1)).bind fun G57 =>
            fX4_world_b60 E t v1 v2 v3 v4 G57))
        else (
          if (0 : Int32) = 0 ∨ (0 : Int32) = 1 then some (0, z39.2) else none))))
theorem sX4_world_b60 {p : Program} {l : Launch} {e : Env} {R : Room} {s : State} {m : MethodId} {args : Array Value} {below : List Frame} {meth : Method} {c : Code} {E : g_E} {D : g_D} (C : gC p R s m args meth c cX4_world 5 RX4 "world" (some .boolean) 2 86 E D) : ∀ (t : Nat) (v1 : Int32) (v2 : Int32) (v3 : Int32) (v4 : Int32) (G : g_G) (q : Int32 × g_G), fX4_world_b60 E t v1 v2 v3 v4 G = some q → ∀ (H : Heap) (locs : List Loc) (cells slots : Nat) (ls : Array Slot), gSt E D G H locs → gls ls 5 [(0, .inr (.inr (some t))), (1, .inl v1), (2, .inl v2), (3, .inl v3), (4, .inl v4)] → gT p l e R s m args below meth c E D H locs cells slots (some (.int q.1)) q.2 (F0 m 60 ls []) := by
  obtain ⟨hx, hb, hml, hown, hts, hKn, hRc, hRs, hc1, hc2, hRf, hRl, hr, hlk, hnm⟩ := id C
  intro t v1 v2 v3 v4 G q h H locs cells slots ls hS hl
  unfold fX4_world_b60 at h
  refine g_aload_n hx hb hl 0 rfl dX4_world_60 ?_
  refine g_iload_n hx hb hl 1 rfl dX4_world_61 ?_
  refine g_ptI hx hb hown hts hKn hS h fd_4_4_3 (Or.inl (hts _ q1868)) (fun _ z => z) (fun z => nomatch z) dX4_world_62 (fun G62 h H locs hS => ?_)
  refine g_aload_n hx hb hl 0 rfl dX4_world_65 ?_
  refine g_iload_n hx hb hl 2 rfl dX4_world_66 ?_
  refine g_ptI hx hb hown hts hKn hS h fd_4_4_4 (Or.inl (hts _ q1869)) (fun _ z => z) (fun z => nomatch z) dX4_world_67 (fun G67 h H locs hS => ?_)
  refine g_aload_n hx hb hl 0 rfl dX4_world_70 ?_
  refine g_iload_n hx hb hl 3 rfl dX4_world_71 ?_
  refine g_ptI hx hb hown hts hKn hS h fd_4_4_5 (Or.inl (hts _ q1870)) (fun _ z => z) (fun z => nomatch z) dX4_world_72 (fun G72 h H locs hS => ?_)
  refine g_aload_n hx hb hl 0 rfl dX4_world_75 ?_
  refine g_iload hx hb hl 4 rfl dX4_world_76 ?_
  refine g_ptI hx hb hown hts hKn hS h fd_4_4_6 (Or.inl (hts _ q1871)) (fun _ z => z) (fun z => nomatch z) dX4_world_78 (fun G78 h H locs hS => ?_)
  refine g_aload_n hx hb hl 0 rfl dX4_world_81 ?_
  refine lv_dup hx hb dX4_world_82 (by first | exact va_rf_cat _ | rfl | exact g_catA _) ?_
  refine g_rdI hx hb hown hts hKn hS h fd_4_4_7 rfl (Or.inl (hts _ q1872)) (fun _ z => z) dX4_world_83 (fun x83 h => ?_)
  refine lv_iconst (v := 1) hx hb dX4_world_86 (by decide) ?_
  refine lv_iadd hx hb dX4_world_87 ?_
  refine g_ptI hx hb hown hts hKn hS h fd_4_4_7 (Or.inl (hts _ q1872)) (fun _ z => z) (fun z => nomatch z) dX4_world_88 (fun G88 h H locs hS => ?_)
  refine lv_iconst (v := 1) hx hb dX4_world_91 (by decide) ?_
  exact g_zretG hx hb hr hlk hKn hRc hRs hS h dX4_world_92
theorem sX4_world (l : Launch) (E : g_E) (D : g_D) {t : Nat} {v1 : Int32} {v2 : Int32} {v3 : Int32} {v4 : Int32} {G : g_G} {q : Int32 × g_G} (h : fX4_world E t v1 v2 v3 v4 G = some q) : gMet l E D yX4_world (ws_ yX4_world cX4_world 5 (some .boolean)) 2 86 [.inr (.inr (some t)), .inl v1, .inl v2, .inl v3, .inl v4] G (some (.int q.1)) q.2 := by
  refine gMet.of (by decide +kernel) (Nat.le_of_ble_eq_true rfl) ?_
  intro p e R s m args below meth c C hS ls hl
  have C : gC p R s m args meth c cX4_world 5 RX4 "world" (some .boolean) 2 86 E D := C
  obtain ⟨hx, hb, hml, hown, hts, hKn, hRc, hRs, hc1, hc2, hRf, hRl, hr, hlk, hnm⟩ := id C
  have hl : gls ls 5 [(0, .inr (.inr (some t))), (1, .inl v1), (2, .inl v2), (3, .inl v3), (4, .inl v4)] := hl
  generalize s.heap = H at hS ⊢
  unfold fX4_world at h
  refine g_aload_n hx hb hl 0 rfl dX4_world_0 ?_
  refine lv_iconst (v := 0) hx hb dX4_world_1 (by decide) ?_
  refine g_ptI hx hb hown hts hKn hS h fd_4_4_2 (Or.inl (hts _ q1867)) (fun _ z => z) (fun z => nomatch z) dX4_world_2 (fun G2 h H locs hS => ?_)
  refine g_iload_n hx hb hl 1 rfl dX4_world_5 ?_
  refine lv_iconst (v := 2) hx hb dX4_world_6 (by decide) ?_
  refine lv_bipush (v := 8) hx hb dX4_world_7 (by decide) ?_
  obtain ⟨z9, h9, h⟩ := g_bnd h
  refine g_callS (n := 3) (av := [.inl v1, .inl 2, .inl 8]) (rs := []) hx hb hml hown hts hKn hRc hRs hS hl (sX4_isIn l E D h9) (lw_S q2180 q2181 q135 q2182) ⟨by decide, by decide, by decide +kernel⟩ ⟨by rw [hRf]; exact Nat.le_of_ble_eq_true rfl, by rw [hRl]; exact Nat.le_of_ble_eq_true rfl⟩ rfl rfl (Nat.le_of_ble_eq_true rfl) dX4_world_9 (fun H locs cells slots hS => ?_)
  refine lv_if_eq (tgt := 45) hx hb dX4_world_12 (by decide) (fun c_12 => ?_) (fun c_12 => ?_)
  · have h := g_ift c_12 h
    refine lv_iconst (v := 0) hx hb dX4_world_45 (by decide) ?_
    exact g_zretG hx hb hr hlk hKn hRc hRs hS h dX4_world_46
  · have h := g_iff c_12 h
    refine g_iload_n hx hb hl 2 rfl dX4_world_15 ?_
    refine lv_iconst (v := 0) hx hb dX4_world_16 (by decide) ?_
    refine lv_iconst (v := 3) hx hb dX4_world_17 (by decide) ?_
    obtain ⟨z18, h18, h⟩ := g_bnd h
    refine g_callS (n := 3) (av := [.inl v2, .inl 0, .inl 3]) (rs := []) hx hb hml hown hts hKn hRc hRs hS hl (sX4_isIn l E D h18) (lw_S q2180 q2181 q135 q2182) ⟨by decide, by decide, by decide +kernel⟩ ⟨by rw [hRf]; exact Nat.le_of_ble_eq_true rfl, by rw [hRl]; exact Nat.le_of_ble_eq_true rfl⟩ rfl rfl (Nat.le_of_ble_eq_true rfl) dX4_world_18 (fun H locs cells slots hS => ?_)
    refine lv_if_eq (tgt := 45) hx hb dX4_world_21 (by decide) (fun c_21 => ?_) (fun c_21 => ?_)
    · have h := g_ift c_21 h
      refine lv_iconst (v := 0) hx hb dX4_world_45 (by decide) ?_
      exact g_zretG hx hb hr hlk hKn hRc hRs hS h dX4_world_46
    · have h := g_iff c_21 h
      refine g_iload_n hx hb hl 3 rfl dX4_world_24 ?_
      refine lv_iconst (v := 0) hx hb dX4_world_25 (by decide) ?_
      refine lv_bipush (v := 99) hx hb dX4_world_26 (by decide) ?_
      obtain ⟨z28, h28, h⟩ := g_bnd h
      refine g_callS (n := 3) (av := [.inl v3, .inl 0, .inl 99]) (rs := []) hx hb hml hown hts hKn hRc hRs hS hl (sX4_isIn l E D h28) (lw_S q2180 q2181 q135 q2182) ⟨by decide, by decide, by decide +kernel⟩ ⟨by rw [hRf]; exact Nat.le_of_ble_eq_true rfl, by rw [hRl]; exact Nat.le_of_ble_eq_true rfl⟩ rfl rfl (Nat.le_of_ble_eq_true rfl) dX4_world_28 (fun H locs cells slots hS => ?_)
      refine lv_if_eq (tgt := 45) hx hb dX4_world_31 (by decide) (fun c_31 => ?_) (fun c_31 => ?_)
      · have h := g_ift c_31 h
        refine lv_iconst (v := 0) hx hb dX4_world_45 (by decide) ?_
        exact g_zretG hx hb hr hlk hKn hRc hRs hS h dX4_world_46
      · have h := g_iff c_31 h
        refine g_iload hx hb hl 4 rfl dX4_world_34 ?_
        refine lv_iconst (v := 0) hx hb dX4_world_36 (by decide) ?_
        refine lv_bipush (v := 99) hx hb dX4_world_37 (by decide) ?_
        obtain ⟨z39, h39, h⟩ := g_bnd h
        refine g_callS (n := 3) (av := [.inl v4, .inl 0, .inl 99]) (rs := []) hx hb hml hown hts hKn hRc hRs hS hl (sX4_isIn l E D h39) (lw_S q2180 q2181 q135 q2182) ⟨by decide, by decide, by decide +kernel⟩ ⟨by rw [hRf]; exact Nat.le_of_ble_eq_true rfl, by rw [hRl]; exact Nat.le_of_ble_eq_true rfl⟩ rfl rfl (Nat.le_of_ble_eq_true rfl) dX4_world_39 (fun H locs cells slots hS => ?_)
        refine lv_if_ne (tgt := 47) hx hb dX4_world_42 (by decide) (fun c_42 => ?_) (fun c_42 => ?_)
        · have h := g_ift c_42 h
          refine g_iload_n hx hb hl 1 rfl dX4_world_47 ?_
          refine g_aload_n hx hb hl 0 rfl dX4_world_48 ?_
          refine g_rdI hx hb hown hts hKn hS h fd_4_4_3 rfl (Or.inl (hts _ q1868)) (fun _ z => z) dX4_world_49 (fun x49 h => ?_)
          refine lv_icmp_eq (tgt := 60) hx hb dX4_world_52 (by decide) (fun c_52 => ?_) (fun c_52 => ?_)
          · have h := g_ift c_52 h
            exact sX4_world_b60 C _ _ _ _ _ _ _ h _ _ _ _ _ hS (gls_sub hl [0, 1, 2, 3, 4] rfl)
          · have h := g_iff c_52 h
            refine g_aload_n hx hb hl 0 rfl dX4_world_55 ?_
            refine lv_iconst (v := (-1)) hx hb dX4_world_56 (by decide) ?_
            refine g_ptI hx hb hown hts hKn hS h fd_4_4_57 (Or.inl (hts _ q1922)) (fun _ z => z) (fun z => nomatch z) dX4_world_57 (fun G57 h H locs hS => ?_)
            exact sX4_world_b60 C _ _ _ _ _ _ _ h _ _ _ _ _ hS (gls_sub hl [0, 1, 2, 3, 4] rfl)
        · have h := g_iff (fun z => z c_42) h
          refine lv_iconst (v := 0) hx hb dX4_world_45 (by decide) ?_
          exact g_zretG hx hb hr hlk hKn hRc hRs hS h dX4_world_46
/-- SendHallModel.wrong(I)V -/
def fX4_wrong (E : g_E) (t : Nat) (v1 : Int32) (G : g_G) : Option (g_G) :=
  (grI G 4 4 (some t) 18).bind fun x1 =>
  if x1 = 0 then (
    (gpI E G 4 4 (some t) 18 v1).bind fun G10 =>
    (grI G10 4 4 (some t) 16).bind fun x15 =>
    (gpI E G10 4 4 (some t) 19 x15).bind fun G18 =>
    some G18)
  else (
    some G)
theorem sX4_wrong (l : Launch) (E : g_E) (D : g_D) {t : Nat} {v1 : Int32} {G : g_G} {q : g_G} (h : fX4_wrong E t v1 G = some q) : gMet l E D yX4_wrong (ws_ yX4_wrong cX4_wrong 2 (none)) 1 64 [.inr (.inr (some t)), .inl v1] G none q := by
  refine gMet.of (by decide +kernel) (Nat.le_of_ble_eq_true rfl) ?_
  intro p e R s m args below meth c C hS ls hl
  have C : gC p R s m args meth c cX4_wrong 2 RX4 "wrong" (none) 1 64 E D := C
  obtain ⟨hx, hb, hml, hown, hts, hKn, hRc, hRs, hc1, hc2, hRf, hRl, hr, hlk, hnm⟩ := id C
  have hl : gls ls 2 [(0, .inr (.inr (some t))), (1, .inl v1)] := hl
  generalize s.heap = H at hS ⊢
  unfold fX4_wrong at h
  refine g_aload_n hx hb hl 0 rfl dX4_wrong_0 ?_
  refine g_rdI hx hb hown hts hKn hS h fd_4_4_18 rfl (Or.inl (hts _ q1883)) (fun _ z => z) dX4_wrong_1 (fun x1 h => ?_)
  refine lv_if_eq (tgt := 8) hx hb dX4_wrong_4 (by decide) (fun c_4 => ?_) (fun c_4 => ?_)
  · have h := g_ift c_4 h
    refine g_aload_n hx hb hl 0 rfl dX4_wrong_8 ?_
    refine g_iload_n hx hb hl 1 rfl dX4_wrong_9 ?_
    refine g_ptI hx hb hown hts hKn hS h fd_4_4_18 (Or.inl (hts _ q1883)) (fun _ z => z) (fun z => nomatch z) dX4_wrong_10 (fun G10 h H locs hS => ?_)
    refine g_aload_n hx hb hl 0 rfl dX4_wrong_13 ?_
    refine g_aload_n hx hb hl 0 rfl dX4_wrong_14 ?_
    refine g_rdI hx hb hown hts hKn hS h fd_4_4_16 rfl (Or.inl (hts _ q1881)) (fun _ z => z) dX4_wrong_15 (fun x15 h => ?_)
    refine g_ptI hx hb hown hts hKn hS h fd_4_4_19 (Or.inl (hts _ q1884)) (fun _ z => z) (fun z => nomatch z) dX4_wrong_18 (fun G18 h H locs hS => ?_)
    exact g_vretG hx hb hr hlk hKn hRc hRs hS h dX4_wrong_21
  · have h := g_iff c_4 h
    exact g_vretG hx hb hr hlk hKn hRc hRs hS h dX4_wrong_7
/-- SendHall$Reader.byteAt(I)I -/
def fX5_byteAt (E : g_E) (t : Nat) (v1 : Int32) (G : g_G) : Option (Int32 × g_G) :=
  (grI G 5 5 (some t) 1).bind fun x2 =>
  if x2 ≤ v1 then (
    some (0, G))
  else (
    (grR G 5 5 (some t) 0).bind fun x9 =>
    (gaI G 101 x9 v1).bind fun x13 =>
    some ((x13 &&& 255), G))
theorem sX5_byteAt (l : Launch) (E : g_E) (D : g_D) {t : Nat} {v1 : Int32} {G : g_G} {q : Int32 × g_G} (h : fX5_byteAt E t v1 G = some q) : gMet l E D yX5_byteAt (ws_ yX5_byteAt cX5_byteAt 2 (some .int)) 1 64 [.inr (.inr (some t)), .inl v1] G (some (.int q.1)) q.2 := by
  refine gMet.of (by decide +kernel) (Nat.le_of_ble_eq_true rfl) ?_
  intro p e R s m args below meth c C hS ls hl
  have C : gC p R s m args meth c cX5_byteAt 2 RX5 "byteAt" (some .int) 1 64 E D := C
  obtain ⟨hx, hb, hml, hown, hts, hKn, hRc, hRs, hc1, hc2, hRf, hRl, hr, hlk, hnm⟩ := id C
  have hl : gls ls 2 [(0, .inr (.inr (some t))), (1, .inl v1)] := hl
  generalize s.heap = H at hS ⊢
  unfold fX5_byteAt at h
  refine g_iload_n hx hb hl 1 rfl dX5_byteAt_0 ?_
  refine g_aload_n hx hb hl 0 rfl dX5_byteAt_1 ?_
  refine g_rdI hx hb hown hts hKn hS h fd_5_5_1 rfl (Or.inl (hts _ q1234)) (fun _ z => z) dX5_byteAt_2 (fun x2 h => ?_)
  refine lv_icmp_ge (tgt := 21) hx hb dX5_byteAt_5 (by decide) (fun c_5 => ?_) (fun c_5 => ?_)
  · have h := g_ift c_5 h
    refine lv_iconst (v := 0) hx hb dX5_byteAt_21 (by decide) ?_
    exact g_iretG hx hb hr hlk hKn hRc hRs hS h dX5_byteAt_22
  · have h := g_iff c_5 h
    refine g_aload_n hx hb hl 0 rfl dX5_byteAt_8 ?_
    refine g_rdR hx hb hown hts hKn hS h fd_5_5_0 rfl (Or.inl (hts _ q1233)) (fun _ z => z) dX5_byteAt_9 (fun x9 h => ?_)
    refine g_iload_n hx hb hl 1 rfl dX5_byteAt_12 ?_
    refine g_baloadG hx hb hKn hS h dX5_byteAt_13 (fun x13 h => ?_)
    refine lv_sipush (v := 255) hx hb dX5_byteAt_14 (by decide) ?_
    refine lv_iand hx hb dX5_byteAt_17 ?_
    refine lv_goto (tgt := 22) hx hb dX5_byteAt_18 (by decide) ?_
    exact g_iretG hx hb hr hlk hKn hRc hRs hS h dX5_byteAt_22
/-- SendHall$Reader.check(ZI)V -/
def fX5_check (E : g_E) (t : Nat) (v1 : Int32) (v2 : Int32) (G : g_G) : Option (g_G) :=
  if ¬ v1 = 0 then (
    some G)
  else (
    none)
theorem sX5_check (l : Launch) (E : g_E) (D : g_D) {t : Nat} {v1 : Int32} {v2 : Int32} {G : g_G} {q : g_G} (h : fX5_check E t v1 v2 G = some q) : gMet l E D yX5_check (ws_ yX5_check cX5_check 3 (none)) 1 64 [.inr (.inr (some t)), .inl v1, .inl v2] G none q := by
  refine gMet.of (by decide +kernel) (Nat.le_of_ble_eq_true rfl) ?_
  intro p e R s m args below meth c C hS ls hl
  have C : gC p R s m args meth c cX5_check 3 RX5 "check" (none) 1 64 E D := C
  obtain ⟨hx, hb, hml, hown, hts, hKn, hRc, hRs, hc1, hc2, hRf, hRl, hr, hlk, hnm⟩ := id C
  have hl : gls ls 3 [(0, .inr (.inr (some t))), (1, .inl v1), (2, .inl v2)] := hl
  generalize s.heap = H at hS ⊢
  unfold fX5_check at h
  refine g_iload_n hx hb hl 1 rfl dX5_check_0 ?_
  refine lv_if_ne (tgt := 17) hx hb dX5_check_1 (by decide) (fun c_1 => ?_) (fun c_1 => ?_)
  · have h := g_ift c_1 h
    exact g_vretG hx hb hr hlk hKn hRc hRs hS h dX5_check_17
  · have h := g_iff (fun z => z c_1) h
    exact g_no h
/-- SendHall$Reader.is(Ljava/lang/String;)Z -/
def fX5_is_b20 (E : g_E) (t : Nat) (v1 : Option Nat) (G : g_G) : Option (Int32 × g_G) :=
  (grR G 5 5 (some t) 9).bind fun x21 =>
  (gchk G 19 x21).bind fun b25 =>
  (fJ9_equals E b25 v1 G).bind fun z25 =>
  if z25.1 = 0 then (
    if (0 : Int32) = 0 ∨ (0 : Int32) = 1 then some (0, z25.2) else none)
  else (
    if (1 : Int32) = 0 ∨ (1 : Int32) = 1 then some (1, z25.2) else none)
def fX5_is (E : g_E) (t : Nat) (v1 : Option Nat) (G : g_G) : Option (Int32 × g_G) :=
  (grR G 5 5 (some t) 8).bind fun x1 =>
  if x1 = (some (gA E 1)) then (
    fX5_is_b20 E t v1 G)
  else (
    (grR G 5 5 (some t) 8).bind fun x11 =>
    if ¬ x11 = (some (gA E 3)) then (
      if (0 : Int32) = 0 ∨ (0 : Int32) = 1 then some (0, G) else none)
    else (
      fX5_is_b20 E t v1 G))
theorem sX5_is_b20 {p : Program} {l : Launch} {e : Env} {R : Room} {s : State} {m : MethodId} {args : Array Value} {below : List Frame} {meth : Method} {c : Code} {E : g_E} {D : g_D} (C : gC p R s m args meth c cX5_is 2 RX5 "is" (some .boolean) 3 108 E D) : ∀ (t : Nat) (v1 : Option Nat) (G : g_G) (q : Int32 × g_G), fX5_is_b20 E t v1 G = some q → ∀ (H : Heap) (locs : List Loc) (cells slots : Nat) (ls : Array Slot), gSt E D G H locs → gls ls 2 [(0, .inr (.inr (some t))), (1, .inr (.inr v1))] → gT p l e R s m args below meth c E D H locs cells slots (some (.int q.1)) q.2 (F0 m 20 ls []) := by
  obtain ⟨hx, hb, hml, hown, hts, hKn, hRc, hRs, hc1, hc2, hRf, hRl, hr, hlk, hnm⟩ := id C
  intro t v1 G q h H locs cells slots ls hS hl
  unfold fX5_is_b20 at h
  refine g_aload_n hx hb hl 0 rfl dX5_is_20 ?_
  refine g_rdR hx hb hown hts hKn hS h fd_5_5_9 rfl (Or.inl (hts _ q1242)) (fun _ z => z) dX5_is_21 (fun x21 h => ?_)
  refine g_aload_n hx hb hl 1 rfl dX5_is_24 ?_
  obtain ⟨b25, hb25, h⟩ := g_bnd h
  obtain ⟨hr25, hk25⟩ := g_chk hb25
  obtain ⟨z25, h25, h⟩ := g_bnd h
  refine g_callV (n := 1) (b := b25) (av := [.inr (.inr v1)]) (rs := []) hx hb hml hown hts hKn hRc hRs hS hl (sJ9_equals l E D h25) (lw_V q1345 q1346 q1347 q124 q1348) ⟨rfl, by decide, by decide, by decide +kernel⟩ ⟨by rw [hRf]; exact Nat.le_of_ble_eq_true rfl, by rw [hRl]; exact Nat.le_of_ble_eq_true rfl⟩ (g_recv hKn hS hk25 (by decide) (by decide)) rfl (by rw [hr25]; rfl) (Nat.le_of_ble_eq_true rfl) dX5_is_25 (fun H locs cells slots hS => ?_)
  refine lv_if_eq (tgt := 35) hx hb dX5_is_28 (by decide) (fun c_28 => ?_) (fun c_28 => ?_)
  · have h := g_ift c_28 h
    refine lv_iconst (v := 0) hx hb dX5_is_35 (by decide) ?_
    exact g_zretG hx hb hr hlk hKn hRc hRs hS h dX5_is_36
  · have h := g_iff c_28 h
    refine lv_iconst (v := 1) hx hb dX5_is_31 (by decide) ?_
    refine lv_goto (tgt := 36) hx hb dX5_is_32 (by decide) ?_
    exact g_zretG hx hb hr hlk hKn hRc hRs hS h dX5_is_36
theorem sX5_is (l : Launch) (E : g_E) (D : g_D) {t : Nat} {v1 : Option Nat} {G : g_G} {q : Int32 × g_G} (h : fX5_is E t v1 G = some q) : gMet l E D yX5_is (ws_ yX5_is cX5_is 2 (some .boolean)) 3 108 [.inr (.inr (some t)), .inr (.inr v1)] G (some (.int q.1)) q.2 := by
  refine gMet.of (by decide +kernel) (Nat.le_of_ble_eq_true rfl) ?_
  intro p e R s m args below meth c C hS ls hl
  have C : gC p R s m args meth c cX5_is 2 RX5 "is" (some .boolean) 3 108 E D := C
  obtain ⟨hx, hb, hml, hown, hts, hKn, hRc, hRs, hc1, hc2, hRf, hRl, hr, hlk, hnm⟩ := id C
  have hl : gls ls 2 [(0, .inr (.inr (some t))), (1, .inr (.inr v1))] := hl
  generalize s.heap = H at hS ⊢
  unfold fX5_is at h
  refine g_aload_n hx hb hl 0 rfl dX5_is_0 ?_
  refine g_rdR hx hb hown hts hKn hS h fd_5_5_8 rfl (Or.inl (hts _ q1241)) (fun _ z => z) dX5_is_1 (fun x1 h => ?_)
  refine g_getsZ (C := "SendHall$Sort") (n := "WORD") (d := "LSendHall$Sort;") (v := va_rf (some (gA E 1))) hx hb hown (hKn.2.2.2.2.2.2.1 _ (List.mem_of_getElem? (i := 0) rfl)) hS (hts _ q1157) (fun _ z => z) dX5_is_4 ?_
  refine lv_acmp_eq (tgt := 20) hx hb dX5_is_7 (by decide) (fun c_7 => ?_) (fun c_7 => ?_)
  · have h := g_ift c_7 h
    exact sX5_is_b20 C _ _ _ _ h _ _ _ _ _ hS (gls_sub hl [0, 1] rfl)
  · have h := g_iff c_7 h
    refine g_aload_n hx hb hl 0 rfl dX5_is_10 ?_
    refine g_rdR hx hb hown hts hKn hS h fd_5_5_8 rfl (Or.inl (hts _ q1241)) (fun _ z => z) dX5_is_11 (fun x11 h => ?_)
    refine g_getsZ (C := "SendHall$Sort") (n := "SIGN") (d := "LSendHall$Sort;") (v := va_rf (some (gA E 3))) hx hb hown (hKn.2.2.2.2.2.2.1 _ (List.mem_of_getElem? (i := 2) rfl)) hS (hts _ q1215) (fun _ z => z) dX5_is_14 ?_
    refine lv_acmp_ne (tgt := 35) hx hb dX5_is_17 (by decide) (fun c_17 => ?_) (fun c_17 => ?_)
    · have h := g_ift c_17 h
      refine lv_iconst (v := 0) hx hb dX5_is_35 (by decide) ?_
      exact g_zretG hx hb hr hlk hKn hRc hRs hS h dX5_is_36
    · have h := g_iff (fun z => z c_17) h
      exact sX5_is_b20 C _ _ _ _ h _ _ _ _ _ hS (gls_sub hl [0, 1] rfl)
/-- SendHall$Reader.isDigit(I)Z -/
def fX5_isDigit (E : g_E) (v0 : Int32) (G : g_G) : Option (Int32 × g_G) :=
  if v0 < (48 : Int32) then (
    if (0 : Int32) = 0 ∨ (0 : Int32) = 1 then some (0, G) else none)
  else (
    if (57 : Int32) < v0 then (
      if (0 : Int32) = 0 ∨ (0 : Int32) = 1 then some (0, G) else none)
    else (
      if (1 : Int32) = 0 ∨ (1 : Int32) = 1 then some (1, G) else none))
theorem sX5_isDigit (l : Launch) (E : g_E) (D : g_D) {v0 : Int32} {G : g_G} {q : Int32 × g_G} (h : fX5_isDigit E v0 G = some q) : gMet l E D yX5_isDigit (ws_ yX5_isDigit cX5_isDigit 1 (some .boolean)) 1 64 [.inl v0] G (some (.int q.1)) q.2 := by
  refine gMet.of (by decide +kernel) (Nat.le_of_ble_eq_true rfl) ?_
  intro p e R s m args below meth c C hS ls hl
  have C : gC p R s m args meth c cX5_isDigit 1 RX5 "isDigit" (some .boolean) 1 64 E D := C
  obtain ⟨hx, hb, hml, hown, hts, hKn, hRc, hRs, hc1, hc2, hRf, hRl, hr, hlk, hnm⟩ := id C
  have hl : gls ls 1 [(0, .inl v0)] := hl
  generalize s.heap = H at hS ⊢
  unfold fX5_isDigit at h
  refine g_iload_n hx hb hl 0 rfl dX5_isDigit_0 ?_
  refine lv_bipush (v := 48) hx hb dX5_isDigit_1 (by decide) ?_
  refine lv_icmp_lt (tgt := 16) hx hb dX5_isDigit_3 (by decide) (fun c_3 => ?_) (fun c_3 => ?_)
  · have h := g_ift c_3 h
    refine lv_iconst (v := 0) hx hb dX5_isDigit_16 (by decide) ?_
    exact g_zretG hx hb hr hlk hKn hRc hRs hS h dX5_isDigit_17
  · have h := g_iff c_3 h
    refine g_iload_n hx hb hl 0 rfl dX5_isDigit_6 ?_
    refine lv_bipush (v := 57) hx hb dX5_isDigit_7 (by decide) ?_
    refine lv_icmp_gt (tgt := 16) hx hb dX5_isDigit_9 (by decide) (fun c_9 => ?_) (fun c_9 => ?_)
    · have h := g_ift c_9 h
      refine lv_iconst (v := 0) hx hb dX5_isDigit_16 (by decide) ?_
      exact g_zretG hx hb hr hlk hKn hRc hRs hS h dX5_isDigit_17
    · have h := g_iff c_9 h
      refine lv_iconst (v := 1) hx hb dX5_isDigit_12 (by decide) ?_
      refine lv_goto (tgt := 17) hx hb dX5_isDigit_13 (by decide) ?_
      exact g_zretG hx hb hr hlk hKn hRc hRs hS h dX5_isDigit_17
/-- SendHall$Reader.isLetter(I)Z -/
def fX5_isLetter (E : g_E) (v0 : Int32) (G : g_G) : Option (Int32 × g_G) :=
  if v0 < (97 : Int32) then (
    if (0 : Int32) = 0 ∨ (0 : Int32) = 1 then some (0, G) else none)
  else (
    if (122 : Int32) < v0 then (
      if (0 : Int32) = 0 ∨ (0 : Int32) = 1 then some (0, G) else none)
    else (
      if (1 : Int32) = 0 ∨ (1 : Int32) = 1 then some (1, G) else none))
theorem sX5_isLetter (l : Launch) (E : g_E) (D : g_D) {v0 : Int32} {G : g_G} {q : Int32 × g_G} (h : fX5_isLetter E v0 G = some q) : gMet l E D yX5_isLetter (ws_ yX5_isLetter cX5_isLetter 1 (some .boolean)) 1 64 [.inl v0] G (some (.int q.1)) q.2 := by
  refine gMet.of (by decide +kernel) (Nat.le_of_ble_eq_true rfl) ?_
  intro p e R s m args below meth c C hS ls hl
  have C : gC p R s m args meth c cX5_isLetter 1 RX5 "isLetter" (some .boolean) 1 64 E D := C
  obtain ⟨hx, hb, hml, hown, hts, hKn, hRc, hRs, hc1, hc2, hRf, hRl, hr, hlk, hnm⟩ := id C
  have hl : gls ls 1 [(0, .inl v0)] := hl
  generalize s.heap = H at hS ⊢
  unfold fX5_isLetter at h
  refine g_iload_n hx hb hl 0 rfl dX5_isLetter_0 ?_
  refine lv_bipush (v := 97) hx hb dX5_isLetter_1 (by decide) ?_
  refine lv_icmp_lt (tgt := 16) hx hb dX5_isLetter_3 (by decide) (fun c_3 => ?_) (fun c_3 => ?_)
  · have h := g_ift c_3 h
    refine lv_iconst (v := 0) hx hb dX5_isLetter_16 (by decide) ?_
    exact g_zretG hx hb hr hlk hKn hRc hRs hS h dX5_isLetter_17
  · have h := g_iff c_3 h
    refine g_iload_n hx hb hl 0 rfl dX5_isLetter_6 ?_
    refine lv_bipush (v := 122) hx hb dX5_isLetter_7 (by decide) ?_
    refine lv_icmp_gt (tgt := 16) hx hb dX5_isLetter_9 (by decide) (fun c_9 => ?_) (fun c_9 => ?_)
    · have h := g_ift c_9 h
      refine lv_iconst (v := 0) hx hb dX5_isLetter_16 (by decide) ?_
      exact g_zretG hx hb hr hlk hKn hRc hRs hS h dX5_isLetter_17
    · have h := g_iff c_9 h
      refine lv_iconst (v := 1) hx hb dX5_isLetter_12 (by decide) ?_
      refine lv_goto (tgt := 17) hx hb dX5_isLetter_13 (by decide) ?_
      exact g_zretG hx hb hr hlk hKn hRc hRs hS h dX5_isLetter_17
/-- SendHall$Reader.links(Ljava/util/ArrayList;LSendHall$Step;)LSendHall$Step; -/
def fX5_links_b42 (E : g_E) (k2 : (Option Nat) → (Option Nat) → Int32 → g_G → Option (Option Nat × g_G)) (v0 : Option Nat) (v1 : Option Nat) (v2 : Int32) (s0 : Option Nat) (s1 : Option Nat) (G : g_G) : Option (Option Nat × g_G) :=
  (gpR E G 11 16 s0 2 s1).bind fun G42 =>
  k2 v0 v1 (v2 + 1) G42
def fX5_links_b2 (E : g_E) : Nat → (Option Nat) → (Option Nat) → Int32 → g_G → Option (Option Nat × g_G)
  | 0, _, _, _, _ => none
  | n + 1, v0, v1, v2, G =>
    (gchk G 17 v0).bind fun b4 =>
    (fJ2_size E b4 G).bind fun z4 =>
    if z4.1 ≤ v2 then (
      (gchk z4.2 17 v0).bind fun b52 =>
      (fJ2_isEmpty E b52 z4.2).bind fun z52 =>
      if z52.1 = 0 then (
        (gchk z52.2 17 v0).bind fun b64 =>
        (fJ2_get E b64 0 z52.2).bind fun z64 =>
        (gcast z64.2 11 16 z64.1).bind fun x67 =>
        some (x67, z64.2))
      else (
        some (v1, z52.2)))
    else (
      (gchk z4.2 17 v0).bind fun b12 =>
      (fJ2_get E b12 v2 z4.2).bind fun z12 =>
      (gcast z12.2 11 16 z12.1).bind fun x15 =>
      (gchk z12.2 17 v0).bind fun b22 =>
      (fJ2_size E b22 z12.2).bind fun z22 =>
      if z22.1 ≤ (v2 + 1) then (
        fX5_links_b42 E (fX5_links_b2 E n) v0 v1 v2 x15 v1 z22.2)
      else (
        (gchk z22.2 17 v0).bind fun b32 =>
        (fJ2_get E b32 (v2 + 1) z22.2).bind fun z32 =>
        (gcast z32.2 11 16 z32.1).bind fun x35 =>
        fX5_links_b42 E (fX5_links_b2 E n) v0 v1 v2 x15 x35 z32.2))
def fX5_links (E : g_E) (v0 : Option Nat) (v1 : Option Nat) (G : g_G) : Option (Option Nat × g_G) :=
  fX5_links_b2 E gFU v0 v1 0 G
theorem sX5_links_b42 {p : Program} {l : Launch} {e : Env} {R : Room} {s : State} {m : MethodId} {args : Array Value} {below : List Frame} {meth : Method} {c : Code} {E : g_E} {D : g_D} (C : gC p R s m args meth c cX5_links 3 RX5 "links" (some (.object "SendHall$Step")) 4 128 E D) {k2 : (Option Nat) → (Option Nat) → Int32 → g_G → Option (Option Nat × g_G)} (hk2 : ∀ (v0 : Option Nat) (v1 : Option Nat) (v2 : Int32) (G : g_G) (q : Option Nat × g_G), k2 v0 v1 v2 G = some q → ∀ (H : Heap) (locs : List Loc) (cells slots : Nat) (ls : Array Slot), gSt E D G H locs → gls ls 3 [(0, .inr (.inr v0)), (1, .inr (.inr v1)), (2, .inl v2)] → gT p l e R s m args below meth c E D H locs cells slots (some (va_rf q.1)) q.2 (F0 m 2 ls [])) : ∀ (v0 : Option Nat) (v1 : Option Nat) (v2 : Int32) (s0 : Option Nat) (s1 : Option Nat) (G : g_G) (q : Option Nat × g_G), fX5_links_b42 E k2 v0 v1 v2 s0 s1 G = some q → ∀ (H : Heap) (locs : List Loc) (cells slots : Nat) (ls : Array Slot), gSt E D G H locs → gls ls 3 [(0, .inr (.inr v0)), (1, .inr (.inr v1)), (2, .inl v2)] → gT p l e R s m args below meth c E D H locs cells slots (some (va_rf q.1)) q.2 (F0 m 42 ls [va_rf s1, va_rf s0]) := by
  obtain ⟨hx, hb, hml, hown, hts, hKn, hRc, hRs, hc1, hc2, hRf, hRl, hr, hlk, hnm⟩ := id C
  intro v0 v1 v2 s0 s1 G q h H locs cells slots ls hS hl
  unfold fX5_links_b42 at h
  refine g_ptR hx hb hown hts hKn hS h fd_11_16_2 rfl (Or.inl (hts _ q1441)) (fun _ z => z) (fun z => nomatch z) dX5_links_42 (fun G42 h H locs hS => ?_)
  refine g_iinc (l1 := [(2, .inl (v2 + 1)), (0, .inr (.inr v0)), (1, .inr (.inr v1))]) (v := (v2 + 1)) hx hb hl (k := 2) rfl (by rfl) (by decide) rfl dX5_links_45 (fun ls hl => ?_)
  refine lv_goto (tgt := 2) hx hb dX5_links_48 (by decide) ?_
  exact hk2 _ _ _ _ _ h _ _ _ _ _ hS (gls_sub hl [1, 2, 0] rfl)
theorem sX5_links_b2 {p : Program} {l : Launch} {e : Env} {R : Room} {s : State} {m : MethodId} {args : Array Value} {below : List Frame} {meth : Method} {c : Code} {E : g_E} {D : g_D} (C : gC p R s m args meth c cX5_links 3 RX5 "links" (some (.object "SendHall$Step")) 4 128 E D) : ∀ (n : Nat) (v0 : Option Nat) (v1 : Option Nat) (v2 : Int32) (G : g_G) (q : Option Nat × g_G), fX5_links_b2 E n v0 v1 v2 G = some q → ∀ (H : Heap) (locs : List Loc) (cells slots : Nat) (ls : Array Slot), gSt E D G H locs → gls ls 3 [(0, .inr (.inr v0)), (1, .inr (.inr v1)), (2, .inl v2)] → gT p l e R s m args below meth c E D H locs cells slots (some (va_rf q.1)) q.2 (F0 m 2 ls []) := by
  obtain ⟨hx, hb, hml, hown, hts, hKn, hRc, hRs, hc1, hc2, hRf, hRl, hr, hlk, hnm⟩ := id C
  intro n
  induction n with
  | zero =>
    intro v0 v1 v2 G q h
    exact g_no h
  | succ n ih =>
    intro v0 v1 v2 G q h H locs cells slots ls hS hl
    rw [fX5_links_b2] at h
    refine g_iload_n hx hb hl 2 rfl dX5_links_2 ?_
    refine g_aload_n hx hb hl 0 rfl dX5_links_3 ?_
    obtain ⟨b4, hb4, h⟩ := g_bnd h
    obtain ⟨hr4, hk4⟩ := g_chk hb4
    obtain ⟨z4, h4, h⟩ := g_bnd h
    refine g_callV (n := 0) (b := b4) (av := []) (rs := [.inl v2]) hx hb hml hown hts hKn hRc hRs hS hl (sJ2_size l E D h4) (lw_V q1362 q782 q783 q117 q784) ⟨rfl, by decide, by decide, by decide +kernel⟩ ⟨by rw [hRf]; exact Nat.le_of_ble_eq_true rfl, by rw [hRl]; exact Nat.le_of_ble_eq_true rfl⟩ (g_recv hKn hS hk4 (by decide) (by decide)) rfl (by rw [hr4]; rfl) (Nat.le_of_ble_eq_true rfl) dX5_links_4 (fun H locs cells slots hS => ?_)
    refine lv_icmp_ge (tgt := 51) hx hb dX5_links_7 (by decide) (fun c_7 => ?_) (fun c_7 => ?_)
    · have h := g_ift c_7 h
      refine g_aload_n hx hb hl 0 rfl dX5_links_51 ?_
      obtain ⟨b52, hb52, h⟩ := g_bnd h
      obtain ⟨hr52, hk52⟩ := g_chk hb52
      obtain ⟨z52, h52, h⟩ := g_bnd h
      refine g_callV (n := 0) (b := b52) (av := []) (rs := []) hx hb hml hown hts hKn hRc hRs hS hl (sJ2_isEmpty l E D h52) (lw_V q1708 q1076 q1077 q117 q1078) ⟨rfl, by decide, by decide, by decide +kernel⟩ ⟨by rw [hRf]; exact Nat.le_of_ble_eq_true rfl, by rw [hRl]; exact Nat.le_of_ble_eq_true rfl⟩ (g_recv hKn hS hk52 (by decide) (by decide)) rfl (by rw [hr52]; rfl) (Nat.le_of_ble_eq_true rfl) dX5_links_52 (fun H locs cells slots hS => ?_)
      refine lv_if_eq (tgt := 62) hx hb dX5_links_55 (by decide) (fun c_55 => ?_) (fun c_55 => ?_)
      · have h := g_ift c_55 h
        refine g_aload_n hx hb hl 0 rfl dX5_links_62 ?_
        refine lv_iconst (v := 0) hx hb dX5_links_63 (by decide) ?_
        obtain ⟨b64, hb64, h⟩ := g_bnd h
        obtain ⟨hr64, hk64⟩ := g_chk hb64
        obtain ⟨z64, h64, h⟩ := g_bnd h
        refine g_callV (n := 1) (b := b64) (av := [.inl 0]) (rs := []) hx hb hml hown hts hKn hRc hRs hS hl (sJ2_get l E D h64) (lw_V q1706 q759 q760 q117 q761) ⟨rfl, by decide, by decide, by decide +kernel⟩ ⟨by rw [hRf]; exact Nat.le_of_ble_eq_true rfl, by rw [hRl]; exact Nat.le_of_ble_eq_true rfl⟩ (g_recv hKn hS hk64 (by decide) (by decide)) rfl (by rw [hr64]; rfl) (Nat.le_of_ble_eq_true rfl) dX5_links_64 (fun H locs cells slots hS => ?_)
        refine g_castY (lo := 11) (hi := 16) (C := "SendHall$Step") hx hb hown hKn hS h (by decide) (by decide) (hts _ q1707) ct_11_16 dX5_links_67 (fun x67 h => ?_)
        exact g_aretG hx hb hr (by first | exact Or.inl ⟨_, rfl⟩ | exact Or.inr ⟨_, rfl⟩) hlk hKn hRc hRs hS h dX5_links_70
      · have h := g_iff c_55 h
        refine g_aload_n hx hb hl 1 rfl dX5_links_58 ?_
        refine lv_goto (tgt := 70) hx hb dX5_links_59 (by decide) ?_
        exact g_aretG hx hb hr (by first | exact Or.inl ⟨_, rfl⟩ | exact Or.inr ⟨_, rfl⟩) hlk hKn hRc hRs hS h dX5_links_70
    · have h := g_iff c_7 h
      refine g_aload_n hx hb hl 0 rfl dX5_links_10 ?_
      refine g_iload_n hx hb hl 2 rfl dX5_links_11 ?_
      obtain ⟨b12, hb12, h⟩ := g_bnd h
      obtain ⟨hr12, hk12⟩ := g_chk hb12
      obtain ⟨z12, h12, h⟩ := g_bnd h
      refine g_callV (n := 1) (b := b12) (av := [.inl v2]) (rs := []) hx hb hml hown hts hKn hRc hRs hS hl (sJ2_get l E D h12) (lw_V q1706 q759 q760 q117 q761) ⟨rfl, by decide, by decide, by decide +kernel⟩ ⟨by rw [hRf]; exact Nat.le_of_ble_eq_true rfl, by rw [hRl]; exact Nat.le_of_ble_eq_true rfl⟩ (g_recv hKn hS hk12 (by decide) (by decide)) rfl (by rw [hr12]; rfl) (Nat.le_of_ble_eq_true rfl) dX5_links_12 (fun H locs cells slots hS => ?_)
      refine g_castY (lo := 11) (hi := 16) (C := "SendHall$Step") hx hb hown hKn hS h (by decide) (by decide) (hts _ q1707) ct_11_16 dX5_links_15 (fun x15 h => ?_)
      refine g_iload_n hx hb hl 2 rfl dX5_links_18 ?_
      refine lv_iconst (v := 1) hx hb dX5_links_19 (by decide) ?_
      refine lv_iadd hx hb dX5_links_20 ?_
      refine g_aload_n hx hb hl 0 rfl dX5_links_21 ?_
      obtain ⟨b22, hb22, h⟩ := g_bnd h
      obtain ⟨hr22, hk22⟩ := g_chk hb22
      obtain ⟨z22, h22, h⟩ := g_bnd h
      refine g_callV (n := 0) (b := b22) (av := []) (rs := [.inl (v2 + 1), .inr (.inr x15)]) hx hb hml hown hts hKn hRc hRs hS hl (sJ2_size l E D h22) (lw_V q1362 q782 q783 q117 q784) ⟨rfl, by decide, by decide, by decide +kernel⟩ ⟨by rw [hRf]; exact Nat.le_of_ble_eq_true rfl, by rw [hRl]; exact Nat.le_of_ble_eq_true rfl⟩ (g_recv hKn hS hk22 (by decide) (by decide)) rfl (by rw [hr22]; rfl) (Nat.le_of_ble_eq_true rfl) dX5_links_22 (fun H locs cells slots hS => ?_)
      refine lv_icmp_ge (tgt := 41) hx hb dX5_links_25 (by decide) (fun c_25 => ?_) (fun c_25 => ?_)
      · have h := g_ift c_25 h
        refine g_aload_n hx hb hl 1 rfl dX5_links_41 ?_
        exact sX5_links_b42 C ih _ _ _ _ _ _ _ h _ _ _ _ _ hS (gls_sub hl [0, 1, 2] rfl)
      · have h := g_iff c_25 h
        refine g_aload_n hx hb hl 0 rfl dX5_links_28 ?_
        refine g_iload_n hx hb hl 2 rfl dX5_links_29 ?_
        refine lv_iconst (v := 1) hx hb dX5_links_30 (by decide) ?_
        refine lv_iadd hx hb dX5_links_31 ?_
        obtain ⟨b32, hb32, h⟩ := g_bnd h
        obtain ⟨hr32, hk32⟩ := g_chk hb32
        obtain ⟨z32, h32, h⟩ := g_bnd h
        refine g_callV (n := 1) (b := b32) (av := [.inl (v2 + 1)]) (rs := [.inr (.inr x15)]) hx hb hml hown hts hKn hRc hRs hS hl (sJ2_get l E D h32) (lw_V q1706 q759 q760 q117 q761) ⟨rfl, by decide, by decide, by decide +kernel⟩ ⟨by rw [hRf]; exact Nat.le_of_ble_eq_true rfl, by rw [hRl]; exact Nat.le_of_ble_eq_true rfl⟩ (g_recv hKn hS hk32 (by decide) (by decide)) rfl (by rw [hr32]; rfl) (Nat.le_of_ble_eq_true rfl) dX5_links_32 (fun H locs cells slots hS => ?_)
        refine g_castY (lo := 11) (hi := 16) (C := "SendHall$Step") hx hb hown hKn hS h (by decide) (by decide) (hts _ q1707) ct_11_16 dX5_links_35 (fun x35 h => ?_)
        refine lv_goto (tgt := 42) hx hb dX5_links_38 (by decide) ?_
        exact sX5_links_b42 C ih _ _ _ _ _ _ _ h _ _ _ _ _ hS (gls_sub hl [0, 1, 2] rfl)
theorem sX5_links (l : Launch) (E : g_E) (D : g_D) {v0 : Option Nat} {v1 : Option Nat} {G : g_G} {q : Option Nat × g_G} (h : fX5_links E v0 v1 G = some q) : gMet l E D yX5_links (ws_ yX5_links cX5_links 3 (some (.object "SendHall$Step"))) 4 128 [.inr (.inr v0), .inr (.inr v1)] G (some (va_rf q.1)) q.2 := by
  refine gMet.of (by decide +kernel) (Nat.le_of_ble_eq_true rfl) ?_
  intro p e R s m args below meth c C hS ls hl
  have C : gC p R s m args meth c cX5_links 3 RX5 "links" (some (.object "SendHall$Step")) 4 128 E D := C
  obtain ⟨hx, hb, hml, hown, hts, hKn, hRc, hRs, hc1, hc2, hRf, hRl, hr, hlk, hnm⟩ := id C
  have hl : gls ls 3 [(0, .inr (.inr v0)), (1, .inr (.inr v1))] := hl
  generalize s.heap = H at hS ⊢
  unfold fX5_links at h
  refine lv_iconst (v := 0) hx hb dX5_links_0 (by decide) ?_
  refine g_istore_n (l1 := [(2, .inl 0), (0, .inr (.inr v0)), (1, .inr (.inr v1))]) hx hb hl (by decide) rfl dX5_links_1 (fun ls hl => ?_)
  exact sX5_links_b2 C gFU _ _ _ _ _ h _ _ _ _ _ hS (gls_sub hl [1, 2, 0] rfl)
/-- SendHall$Fault.<init>(II)V -/
def fX6_init (E : g_E) (t : Nat) (v1 : Int32) (v2 : Int32) (G : g_G) : Option (g_G) :=
  none
theorem sX6_init (l : Launch) (E : g_E) (D : g_D) {t : Nat} {v1 : Int32} {v2 : Int32} {G : g_G} {q : g_G} (h : fX6_init E t v1 v2 G = some q) : gMet l E D yX6_init (ws_ yX6_init cX6_init 3 (none)) 1 64 [.inr (.inr (some t)), .inl v1, .inl v2] G none q := by
  refine gMet.of (by decide +kernel) (Nat.le_of_ble_eq_true rfl) ?_
  intro p e R s m args below meth c C hS ls hl
  have C : gC p R s m args meth c cX6_init 3 RX6 "<init>" (none) 1 64 E D := C
  obtain ⟨hx, hb, hml, hown, hts, hKn, hRc, hRs, hc1, hc2, hRf, hRl, hr, hlk, hnm⟩ := id C
  have hl : gls ls 3 [(0, .inr (.inr (some t))), (1, .inl v1), (2, .inl v2)] := hl
  generalize s.heap = H at hS ⊢
  unfold fX6_init at h
  refine g_aload_n hx hb hl 0 rfl dX6_init_0 ?_
  exact g_no h
/-- SendHall$Step.comes(LSendHall$Life;I)LSendHall$Step; -/
def fX7_comes (E : g_E) (t : Nat) (v1 : Option Nat) (v2 : Int32) (G : g_G) : Option (Option Nat × g_G) :=
  some ((some t), G)
theorem sX7_comes (l : Launch) (E : g_E) (D : g_D) {t : Nat} {v1 : Option Nat} {v2 : Int32} {G : g_G} {q : Option Nat × g_G} (h : fX7_comes E t v1 v2 G = some q) : gMet l E D yX7_comes (ws_ yX7_comes cX7_comes 3 (some (.object "SendHall$Step"))) 1 64 [.inr (.inr (some t)), .inr (.inr v1), .inl v2] G (some (va_rf q.1)) q.2 := by
  refine gMet.of (by decide +kernel) (Nat.le_of_ble_eq_true rfl) ?_
  intro p e R s m args below meth c C hS ls hl
  have C : gC p R s m args meth c cX7_comes 3 RX7 "comes" (some (.object "SendHall$Step")) 1 64 E D := C
  obtain ⟨hx, hb, hml, hown, hts, hKn, hRc, hRs, hc1, hc2, hRf, hRl, hr, hlk, hnm⟩ := id C
  have hl : gls ls 3 [(0, .inr (.inr (some t))), (1, .inr (.inr v1)), (2, .inl v2)] := hl
  generalize s.heap = H at hS ⊢
  unfold fX7_comes at h
  refine g_aload_n hx hb hl 0 rfl dX7_comes_0 ?_
  exact g_aretG hx hb hr (by first | exact Or.inl ⟨_, rfl⟩ | exact Or.inr ⟨_, rfl⟩) hlk hKn hRc hRs hS h dX7_comes_1
/-- SendHall$Step.<init>(II)V -/
def fX7_init (E : g_E) (t : Nat) (v1 : Int32) (v2 : Int32) (G : g_G) : Option (g_G) :=
  (gpI E G 11 16 (some t) 0 v1).bind fun G6 =>
  (gpI E G6 11 16 (some t) 1 v2).bind fun G11 =>
  some G11
theorem sX7_init (l : Launch) (E : g_E) (D : g_D) {t : Nat} {v1 : Int32} {v2 : Int32} {G : g_G} {q : g_G} (h : fX7_init E t v1 v2 G = some q) : gMet l E D yX7_init (ws_ yX7_init cX7_init 3 (none)) 1 64 [.inr (.inr (some t)), .inl v1, .inl v2] G none q := by
  refine gMet.of (by decide +kernel) (Nat.le_of_ble_eq_true rfl) ?_
  intro p e R s m args below meth c C hS ls hl
  have C : gC p R s m args meth c cX7_init 3 RX7 "<init>" (none) 1 64 E D := C
  obtain ⟨hx, hb, hml, hown, hts, hKn, hRc, hRs, hc1, hc2, hRf, hRl, hr, hlk, hnm⟩ := id C
  have hl : gls ls 3 [(0, .inr (.inr (some t))), (1, .inl v1), (2, .inl v2)] := hl
  generalize s.heap = H at hS ⊢
  unfold fX7_init at h
  refine g_aload_n hx hb hl 0 rfl dX7_init_0 ?_
  refine g_objInit (rs := []) hx hb hml hown hl (hts _ q1405) (hts _ q162) (hts _ q163) rfl dX7_init_1 ⟨by rw [hRf]; exact Nat.le_of_ble_eq_true rfl, by rw [hRl]; exact Nat.le_of_ble_eq_true rfl⟩ ?_
  refine g_aload_n hx hb hl 0 rfl dX7_init_4 ?_
  refine g_iload_n hx hb hl 1 rfl dX7_init_5 ?_
  refine g_ptI hx hb hown hts hKn hS h fd_11_16_0 (Or.inl (hts _ q1418)) (fun _ z => z) (fun _ => ⟨hnm, rfl⟩) dX7_init_6 (fun G6 h H locs hS => ?_)
  refine g_aload_n hx hb hl 0 rfl dX7_init_9 ?_
  refine g_iload_n hx hb hl 2 rfl dX7_init_10 ?_
  refine g_ptI hx hb hown hts hKn hS h fd_11_16_1 (Or.inl (hts _ q1427)) (fun _ z => z) (fun _ => ⟨hnm, rfl⟩) dX7_init_11 (fun G11 h H locs hS => ?_)
  exact g_vretG hx hb hr hlk hKn hRc hRs hS h dX7_init_14
/-- SendHall$Step.isOther(LSendHall$Life;II)Z -/
def fX7_isOther (E : g_E) (v0 : Option Nat) (v1 : Int32) (v2 : Int32) (G : g_G) : Option (Int32 × g_G) :=
  if v2 < 0 then (
    if (0 : Int32) = 0 ∨ (0 : Int32) = 1 then some (0, G) else none)
  else (
    (grI G 3 3 v0 0).bind fun x6 =>
    if x6 ≤ v2 then (
      if (0 : Int32) = 0 ∨ (0 : Int32) = 1 then some (0, G) else none)
    else (
      if v2 = v1 then (
        if (0 : Int32) = 0 ∨ (0 : Int32) = 1 then some (0, G) else none)
      else (
        if (1 : Int32) = 0 ∨ (1 : Int32) = 1 then some (1, G) else none)))
theorem sX7_isOther (l : Launch) (E : g_E) (D : g_D) {v0 : Option Nat} {v1 : Int32} {v2 : Int32} {G : g_G} {q : Int32 × g_G} (h : fX7_isOther E v0 v1 v2 G = some q) : gMet l E D yX7_isOther (ws_ yX7_isOther cX7_isOther 3 (some .boolean)) 1 64 [.inr (.inr v0), .inl v1, .inl v2] G (some (.int q.1)) q.2 := by
  refine gMet.of (by decide +kernel) (Nat.le_of_ble_eq_true rfl) ?_
  intro p e R s m args below meth c C hS ls hl
  have C : gC p R s m args meth c cX7_isOther 3 RX7 "isOther" (some .boolean) 1 64 E D := C
  obtain ⟨hx, hb, hml, hown, hts, hKn, hRc, hRs, hc1, hc2, hRf, hRl, hr, hlk, hnm⟩ := id C
  have hl : gls ls 3 [(0, .inr (.inr v0)), (1, .inl v1), (2, .inl v2)] := hl
  generalize s.heap = H at hS ⊢
  unfold fX7_isOther at h
  refine g_iload_n hx hb hl 2 rfl dX7_isOther_0 ?_
  refine lv_if_lt (tgt := 21) hx hb dX7_isOther_1 (by decide) (fun c_1 => ?_) (fun c_1 => ?_)
  · have h := g_ift c_1 h
    refine lv_iconst (v := 0) hx hb dX7_isOther_21 (by decide) ?_
    exact g_zretG hx hb hr hlk hKn hRc hRs hS h dX7_isOther_22
  · have h := g_iff c_1 h
    refine g_iload_n hx hb hl 2 rfl dX7_isOther_4 ?_
    refine g_aload_n hx hb hl 0 rfl dX7_isOther_5 ?_
    refine g_rdI hx hb hown hts hKn hS h fd_3_3_0 rfl (Or.inr ⟨_, gNest_use rfl (hKn.2.2.2.2.1 _ (gNest_in q540 rfl))⟩) (fun _ z => z) dX7_isOther_6 (fun x6 h => ?_)
    refine lv_icmp_ge (tgt := 21) hx hb dX7_isOther_9 (by decide) (fun c_9 => ?_) (fun c_9 => ?_)
    · have h := g_ift c_9 h
      refine lv_iconst (v := 0) hx hb dX7_isOther_21 (by decide) ?_
      exact g_zretG hx hb hr hlk hKn hRc hRs hS h dX7_isOther_22
    · have h := g_iff c_9 h
      refine g_iload_n hx hb hl 2 rfl dX7_isOther_12 ?_
      refine g_iload_n hx hb hl 1 rfl dX7_isOther_13 ?_
      refine lv_icmp_eq (tgt := 21) hx hb dX7_isOther_14 (by decide) (fun c_14 => ?_) (fun c_14 => ?_)
      · have h := g_ift c_14 h
        refine lv_iconst (v := 0) hx hb dX7_isOther_21 (by decide) ?_
        exact g_zretG hx hb hr hlk hKn hRc hRs hS h dX7_isOther_22
      · have h := g_iff c_14 h
        refine lv_iconst (v := 1) hx hb dX7_isOther_17 (by decide) ?_
        refine lv_goto (tgt := 22) hx hb dX7_isOther_18 (by decide) ?_
        exact g_zretG hx hb hr hlk hKn hRc hRs hS h dX7_isOther_22
/-- SendHall$Talk.<init>(II)V -/
def fX8_init (E : g_E) (t : Nat) (v1 : Int32) (v2 : Int32) (G : g_G) : Option (g_G) :=
  (fX7_init E t v1 v2 G).bind fun z3 =>
  some z3
theorem sX8_init (l : Launch) (E : g_E) (D : g_D) {t : Nat} {v1 : Int32} {v2 : Int32} {G : g_G} {q : g_G} (h : fX8_init E t v1 v2 G = some q) : gMet l E D yX8_init (ws_ yX8_init cX8_init 3 (none)) 2 86 [.inr (.inr (some t)), .inl v1, .inl v2] G none q := by
  refine gMet.of (by decide +kernel) (Nat.le_of_ble_eq_true rfl) ?_
  intro p e R s m args below meth c C hS ls hl
  have C : gC p R s m args meth c cX8_init 3 RX8 "<init>" (none) 2 86 E D := C
  obtain ⟨hx, hb, hml, hown, hts, hKn, hRc, hRs, hc1, hc2, hRf, hRl, hr, hlk, hnm⟩ := id C
  have hl : gls ls 3 [(0, .inr (.inr (some t))), (1, .inl v1), (2, .inl v2)] := hl
  generalize s.heap = H at hS ⊢
  unfold fX8_init at h
  refine g_aload_n hx hb hl 0 rfl dX8_init_0 ?_
  refine g_iload_n hx hb hl 1 rfl dX8_init_1 ?_
  refine g_iload_n hx hb hl 2 rfl dX8_init_2 ?_
  obtain ⟨z3, h3, h⟩ := g_bnd h
  refine g_callI (n := 2) (av := [.inl v1, .inl v2]) (rs := []) hx hb hml hown hts hKn hRc hRs hS hl (sX7_init l E D h3) (lw_meth q1404) (hts _ q141) (hts _ q1402) (hts _ q1403) rfl ⟨by decide, by decide, by decide +kernel⟩ ⟨by rw [hRf]; exact Nat.le_of_ble_eq_true rfl, by rw [hRl]; exact Nat.le_of_ble_eq_true rfl⟩ rfl rfl (Nat.le_of_ble_eq_true rfl) dX8_init_3 (fun H locs cells slots hS => ?_)
  exact g_vretG hx hb hr hlk hKn hRc hRs hS h dX8_init_6
