set_option maxRecDepth 100000
/-- java/util/AbstractCollection.<init>()V -/
def fJ0_init (E : g_E) (t : Nat) (G : g_G) : Option (g_G) :=
  some G
theorem sJ0_init (l : Launch) (E : g_E) (D : g_D) {t : Nat} {G : g_G} {q : g_G} (h : fJ0_init E t G = some q) : gMet l E D yJ0_init (ws_ yJ0_init cJ0_init 1 (none)) 1 64 [.inr (.inr (some t))] G none q := by
  refine gMet.of (by decide +kernel) (Nat.le_of_ble_eq_true rfl) ?_
  intro p e R s m args below meth c C hS ls hl
  have C : gC p R s m args meth c cJ0_init 1 RJ0 "<init>" (none) 1 64 E D := C
  obtain ⟨hx, hb, hml, hown, hts, hKn, hRc, hRs, hc1, hc2, hRf, hRl, hr, hlk, hnm⟩ := id C
  have hl : gls ls 1 [(0, .inr (.inr (some t)))] := hl
  generalize s.heap = H at hS ⊢
  unfold fJ0_init at h
  refine g_aload_n hx hb hl 0 rfl dJ0_init_0 ?_
  refine g_objInit (rs := []) hx hb hml hown hl (hts _ q181) (hts _ q162) (hts _ q163) rfl dJ0_init_1 ⟨by rw [hRf]; exact Nat.le_of_ble_eq_true rfl, by rw [hRl]; exact Nat.le_of_ble_eq_true rfl⟩ ?_
  exact g_vretG hx hb hr hlk hKn hRc hRs hS h dJ0_init_4
/-- jdk/internal/util/ArraysSupport.newLength(III)I -/
def fJ11_newLength (E : g_E) (v0 : Int32) (v1 : Int32) (v2 : Int32) (G : g_G) : Option (Int32 × g_G) :=
  if (v0 + (if v1 < v2 then v2 else v1)) ≤ (0 : Int32) then (
    none)
  else (
    if (2147483639 : Int32) < (v0 + (if v1 < v2 then v2 else v1)) then (
      none)
    else (
      some ((v0 + (if v1 < v2 then v2 else v1)), G)))
theorem sJ11_newLength (l : Launch) (E : g_E) (D : g_D) {v0 : Int32} {v1 : Int32} {v2 : Int32} {G : g_G} {q : Int32 × g_G} (h : fJ11_newLength E v0 v1 v2 G = some q) : gMet l E D yJ11_newLength (ws_ yJ11_newLength cJ11_newLength 4 (some .int)) 1 64 [.inl v0, .inl v1, .inl v2] G (some (.int q.1)) q.2 := by
  refine gMet.of (by decide +kernel) (Nat.le_of_ble_eq_true rfl) ?_
  intro p e R s m args below meth c C hS ls hl
  have C : gC p R s m args meth c cJ11_newLength 4 RJ11 "newLength" (some .int) 1 64 E D := C
  obtain ⟨hx, hb, hml, hown, hts, hKn, hRc, hRs, hc1, hc2, hRf, hRl, hr, hlk, hnm⟩ := id C
  have hl : gls ls 4 [(0, .inl v0), (1, .inl v1), (2, .inl v2)] := hl
  generalize s.heap = H at hS ⊢
  unfold fJ11_newLength at h
  refine g_iload_n hx hb hl 0 rfl dJ11_newLength_0 ?_
  refine g_iload_n hx hb hl 1 rfl dJ11_newLength_1 ?_
  refine g_iload_n hx hb hl 2 rfl dJ11_newLength_2 ?_
  refine g_mmax (rs := [.inl v0]) hx hb hml hown hRc hRs hS hl (hts _ q282) (hts _ q283) (hts _ q127) (hts _ q284) (by decide +kernel) rfl (Nat.le_of_ble_eq_true rfl) ⟨by rw [hRf]; exact Nat.le_of_ble_eq_true rfl, by rw [hRl]; exact Nat.le_of_ble_eq_true rfl⟩ dJ11_newLength_3 (fun cells slots => ?_)
  refine lv_iadd hx hb dJ11_newLength_6 ?_
  refine g_istore_n (l1 := [(3, .inl (v0 + (if v1 < v2 then v2 else v1))), (0, .inl v0), (1, .inl v1), (2, .inl v2)]) hx hb hl (by decide) rfl dJ11_newLength_7 (fun ls hl => ?_)
  refine lv_iconst (v := 0) hx hb dJ11_newLength_8 (by decide) ?_
  refine g_iload_n hx hb hl 0 rfl dJ11_newLength_9 ?_
  refine lv_icmp_ge (tgt := 21) hx hb dJ11_newLength_10 (by decide) (fun c_10 => ?_) (fun c_10 => ?_)
  · have h := g_ift c_10 h
    refine g_iload_n hx hb hl 1 rfl dJ11_newLength_21 ?_
    refine g_iload_n hx hb hl 2 rfl dJ11_newLength_22 ?_
    exact g_no h
  · have h := g_iff c_10 h
    refine g_iload_n hx hb hl 0 rfl dJ11_newLength_13 ?_
    refine lv_ldc (v := 2147483639) hx hb hown (hts _ q285) dJ11_newLength_14 ?_
    refine lv_icmp_gt (tgt := 21) hx hb dJ11_newLength_16 (by decide) (fun c_16 => ?_) (fun c_16 => ?_)
    · have h := g_ift c_16 h
      refine g_iload_n hx hb hl 1 rfl dJ11_newLength_21 ?_
      refine g_iload_n hx hb hl 2 rfl dJ11_newLength_22 ?_
      exact g_no h
    · have h := g_iff c_16 h
      refine g_iload_n hx hb hl 0 rfl dJ11_newLength_19 ?_
      exact g_iretG hx hb hr hlk hKn hRc hRs hS h dJ11_newLength_20
/-- jdk/internal/util/ArraysSupport.signedHashCode(I[BII)I -/
def fJ11_signedHashCode_b8 (E : g_E) : Nat → Int32 → (Option Nat) → Int32 → Int32 → g_G → Option (Int32 × g_G)
  | 0, _, _, _, _, _ => none
  | n + 1, v0, v1, v4, v5, G =>
    if v4 ≤ v5 then (
      some (v0, G))
    else (
      (gaI G 101 v1 v5).bind fun x22 =>
      fJ11_signedHashCode_b8 E n ((31 * v0) + (x22 &&& 255)) v1 v4 (v5 + 1) G)
def fJ11_signedHashCode (E : g_E) (v0 : Int32) (v1 : Option Nat) (v2 : Int32) (v3 : Int32) (G : g_G) : Option (Int32 × g_G) :=
  fJ11_signedHashCode_b8 E gFU v0 v1 (v2 + v3) v2 G
theorem sJ11_signedHashCode_b8 {p : Program} {l : Launch} {e : Env} {R : Room} {s : State} {m : MethodId} {args : Array Value} {below : List Frame} {meth : Method} {c : Code} {E : g_E} {D : g_D} (C : gC p R s m args meth c cJ11_signedHashCode 6 RJ11 "signedHashCode" (some .int) 1 64 E D) : ∀ (n : Nat) (v0 : Int32) (v1 : Option Nat) (v4 : Int32) (v5 : Int32) (G : g_G) (q : Int32 × g_G), fJ11_signedHashCode_b8 E n v0 v1 v4 v5 G = some q → ∀ (H : Heap) (locs : List Loc) (cells slots : Nat) (ls : Array Slot), gSt E D G H locs → gls ls 6 [(0, .inl v0), (1, .inr (.inr v1)), (4, .inl v4), (5, .inl v5)] → gT p l e R s m args below meth c E D H locs cells slots (some (.int q.1)) q.2 (F0 m 8 ls []) := by
  obtain ⟨hx, hb, hml, hown, hts, hKn, hRc, hRs, hc1, hc2, hRf, hRl, hr, hlk, hnm⟩ := id C
  intro n
  induction n with
  | zero =>
    intro v0 v1 v4 v5 G q h
    exact g_no h
  | succ n ih =>
    intro v0 v1 v4 v5 G q h H locs cells slots ls hS hl
    rw [fJ11_signedHashCode_b8] at h
    refine g_iload hx hb hl 3 rfl dJ11_signedHashCode_8 ?_
    refine g_iload hx hb hl 2 rfl dJ11_signedHashCode_10 ?_
    refine lv_icmp_ge (tgt := 35) hx hb dJ11_signedHashCode_12 (by decide) (fun c_12 => ?_) (fun c_12 => ?_)
    · have h := g_ift c_12 h
      refine g_iload_n hx hb hl 0 rfl dJ11_signedHashCode_35 ?_
      exact g_iretG hx hb hr hlk hKn hRc hRs hS h dJ11_signedHashCode_36
    · have h := g_iff c_12 h
      refine lv_bipush (v := 31) hx hb dJ11_signedHashCode_15 (by decide) ?_
      refine g_iload_n hx hb hl 0 rfl dJ11_signedHashCode_17 ?_
      refine lv_imul hx hb dJ11_signedHashCode_18 ?_
      refine g_aload_n hx hb hl 1 rfl dJ11_signedHashCode_19 ?_
      refine g_iload hx hb hl 3 rfl dJ11_signedHashCode_20 ?_
      refine g_baloadG hx hb hKn hS h dJ11_signedHashCode_22 (fun x22 h => ?_)
      refine lv_sipush (v := 255) hx hb dJ11_signedHashCode_23 (by decide) ?_
      refine lv_iand hx hb dJ11_signedHashCode_26 ?_
      refine lv_iadd hx hb dJ11_signedHashCode_27 ?_
      refine g_istore_n (l1 := [(0, .inl ((31 * v0) + (x22 &&& 255))), (1, .inr (.inr v1)), (4, .inl v4), (5, .inl v5)]) hx hb hl (by decide) rfl dJ11_signedHashCode_28 (fun ls hl => ?_)
      refine g_iinc (l1 := [(5, .inl (v5 + 1)), (0, .inl ((31 * v0) + (x22 &&& 255))), (1, .inr (.inr v1)), (4, .inl v4)]) (v := (v5 + 1)) hx hb hl (k := 3) rfl (by rfl) (by decide) rfl dJ11_signedHashCode_29 (fun ls hl => ?_)
      refine lv_goto (tgt := 8) hx hb dJ11_signedHashCode_32 (by decide) ?_
      exact ih _ _ _ _ _ _ h _ _ _ _ _ hS (gls_sub hl [1, 2, 3, 0] rfl)
theorem sJ11_signedHashCode (l : Launch) (E : g_E) (D : g_D) {v0 : Int32} {v1 : Option Nat} {v2 : Int32} {v3 : Int32} {G : g_G} {q : Int32 × g_G} (h : fJ11_signedHashCode E v0 v1 v2 v3 G = some q) : gMet l E D yJ11_signedHashCode (ws_ yJ11_signedHashCode cJ11_signedHashCode 6 (some .int)) 1 64 [.inl v0, .inr (.inr v1), .inl v2, .inl v3] G (some (.int q.1)) q.2 := by
  refine gMet.of (by decide +kernel) (Nat.le_of_ble_eq_true rfl) ?_
  intro p e R s m args below meth c C hS ls hl
  have C : gC p R s m args meth c cJ11_signedHashCode 6 RJ11 "signedHashCode" (some .int) 1 64 E D := C
  obtain ⟨hx, hb, hml, hown, hts, hKn, hRc, hRs, hc1, hc2, hRf, hRl, hr, hlk, hnm⟩ := id C
  have hl : gls ls 6 [(0, .inl v0), (1, .inr (.inr v1)), (2, .inl v2), (3, .inl v3)] := hl
  generalize s.heap = H at hS ⊢
  unfold fJ11_signedHashCode at h
  refine g_iload_n hx hb hl 2 rfl dJ11_signedHashCode_0 ?_
  refine g_iload_n hx hb hl 3 rfl dJ11_signedHashCode_1 ?_
  refine lv_iadd hx hb dJ11_signedHashCode_2 ?_
  refine g_istore (l1 := [(4, .inl (v2 + v3)), (0, .inl v0), (1, .inr (.inr v1)), (2, .inl v2), (3, .inl v3)]) hx hb hl (by decide) rfl dJ11_signedHashCode_3 (fun ls hl => ?_)
  refine g_iload_n hx hb hl 3 rfl dJ11_signedHashCode_5 ?_
  refine g_istore (l1 := [(5, .inl v2), (4, .inl (v2 + v3)), (0, .inl v0), (1, .inr (.inr v1)), (2, .inl v2), (3, .inl v3)]) hx hb hl (by decide) rfl dJ11_signedHashCode_6 (fun ls hl => ?_)
  exact sJ11_signedHashCode_b8 C gFU _ _ _ _ _ _ h _ _ _ _ _ hS (gls_sub hl [2, 3, 1, 0] rfl)
/-- jdk/internal/util/ArraysSupport.vectorizedHashCode(Ljava/lang/Object;IIII)I -/
def fJ11_vectorizedHashCode (E : g_E) (v0 : Option Nat) (v1 : Int32) (v2 : Int32) (v3 : Int32) (v4 : Int32) (G : g_G) : Option (Int32 × g_G) :=
  if v4 = 4 then (
    (gcast G 101 101 v0).bind fun x46 =>
    (fJ11_signedHashCode E v3 x46 v1 v2 G).bind fun z51 =>
    some (z51.1, z51.2))
  else
  if v4 = 5 then (
    none)
  else
  if v4 = 8 then (
    (gcast G 101 101 v0).bind fun x92 =>
    none)
  else
  if v4 = 9 then (
    none)
  else
  if v4 = 10 then (
    (gcast G 100 100 v0).bind fun x118 =>
    none)
  else
  (
    none)
theorem sJ11_vectorizedHashCode (l : Launch) (E : g_E) (D : g_D) {v0 : Option Nat} {v1 : Int32} {v2 : Int32} {v3 : Int32} {v4 : Int32} {G : g_G} {q : Int32 × g_G} (h : fJ11_vectorizedHashCode E v0 v1 v2 v3 v4 G = some q) : gMet l E D yJ11_vectorizedHashCode (ws_ yJ11_vectorizedHashCode cJ11_vectorizedHashCode 5 (some .int)) 2 89 [.inr (.inr v0), .inl v1, .inl v2, .inl v3, .inl v4] G (some (.int q.1)) q.2 := by
  refine gMet.of (by decide +kernel) (Nat.le_of_ble_eq_true rfl) ?_
  intro p e R s m args below meth c C hS ls hl
  have C : gC p R s m args meth c cJ11_vectorizedHashCode 5 RJ11 "vectorizedHashCode" (some .int) 2 89 E D := C
  obtain ⟨hx, hb, hml, hown, hts, hKn, hRc, hRs, hc1, hc2, hRf, hRl, hr, hlk, hnm⟩ := id C
  have hl : gls ls 5 [(0, .inr (.inr v0)), (1, .inl v1), (2, .inl v2), (3, .inl v3), (4, .inl v4)] := hl
  generalize s.heap = H at hS ⊢
  unfold fJ11_vectorizedHashCode at h
  refine g_iload hx hb hl 4 rfl dJ11_vectorizedHashCode_0 ?_
  by_cases w2_0 : v4 = 4
  · refine lv_tableIn (tgt := 44) (off := 42) hx hb dJ11_vectorizedHashCode_2 (by rw [w2_0]; decide) (by rw [w2_0]; decide) (by rw [w2_0]; decide) (by decide) ?_
    have h := g_ift w2_0 h
    refine g_iload_n hx hb hl 3 rfl dJ11_vectorizedHashCode_44 ?_
    refine g_aload_n hx hb hl 0 rfl dJ11_vectorizedHashCode_45 ?_
    refine g_castA (k := 101) (C := "[B") hx hb hown hKn hS h (by decide) (by decide +kernel) (hts _ q1297) dJ11_vectorizedHashCode_46 (fun x46 h => ?_)
    refine g_iload_n hx hb hl 1 rfl dJ11_vectorizedHashCode_49 ?_
    refine g_iload_n hx hb hl 2 rfl dJ11_vectorizedHashCode_50 ?_
    obtain ⟨z51, h51, h⟩ := g_bnd h
    refine g_callS (n := 4) (av := [.inl v3, .inr (.inr x46), .inl v1, .inl v2]) (rs := []) hx hb hml hown hts hKn hRc hRs hS hl (sJ11_signedHashCode l E D h51) (lw_S q1298 q1299 q126 q1300) ⟨by decide, by decide, by decide +kernel⟩ ⟨by rw [hRf]; exact Nat.le_of_ble_eq_true rfl, by rw [hRl]; exact Nat.le_of_ble_eq_true rfl⟩ rfl rfl (Nat.le_of_ble_eq_true rfl) dJ11_vectorizedHashCode_51 (fun H locs cells slots hS => ?_)
    refine lv_goto (tgt := 157) hx hb dJ11_vectorizedHashCode_54 (by decide) ?_
    exact g_iretG hx hb hr hlk hKn hRc hRs hS h dJ11_vectorizedHashCode_157
  have h := g_iff w2_0 h
  by_cases w2_1 : v4 = 5
  · refine lv_tableIn (tgt := 57) (off := 55) hx hb dJ11_vectorizedHashCode_2 (by rw [w2_1]; decide) (by rw [w2_1]; decide) (by rw [w2_1]; decide) (by decide) ?_
    have h := g_ift w2_1 h
    refine g_aload_n hx hb hl 0 rfl dJ11_vectorizedHashCode_57 ?_
    exact g_no h
  have h := g_iff w2_1 h
  by_cases w2_2 : v4 = 8
  · refine lv_tableIn (tgt := 90) (off := 88) hx hb dJ11_vectorizedHashCode_2 (by rw [w2_2]; decide) (by rw [w2_2]; decide) (by rw [w2_2]; decide) (by decide) ?_
    have h := g_ift w2_2 h
    refine g_iload_n hx hb hl 3 rfl dJ11_vectorizedHashCode_90 ?_
    refine g_aload_n hx hb hl 0 rfl dJ11_vectorizedHashCode_91 ?_
    refine g_castA (k := 101) (C := "[B") hx hb hown hKn hS h (by decide) (by decide +kernel) (hts _ q1297) dJ11_vectorizedHashCode_92 (fun x92 h => ?_)
    refine g_iload_n hx hb hl 1 rfl dJ11_vectorizedHashCode_95 ?_
    refine g_iload_n hx hb hl 2 rfl dJ11_vectorizedHashCode_96 ?_
    exact g_no h
  have h := g_iff w2_2 h
  by_cases w2_3 : v4 = 9
  · refine lv_tableIn (tgt := 103) (off := 101) hx hb dJ11_vectorizedHashCode_2 (by rw [w2_3]; decide) (by rw [w2_3]; decide) (by rw [w2_3]; decide) (by decide) ?_
    have h := g_ift w2_3 h
    refine g_iload_n hx hb hl 3 rfl dJ11_vectorizedHashCode_103 ?_
    refine g_aload_n hx hb hl 0 rfl dJ11_vectorizedHashCode_104 ?_
    exact g_no h
  have h := g_iff w2_3 h
  by_cases w2_4 : v4 = 10
  · refine lv_tableIn (tgt := 116) (off := 114) hx hb dJ11_vectorizedHashCode_2 (by rw [w2_4]; decide) (by rw [w2_4]; decide) (by rw [w2_4]; decide) (by decide) ?_
    have h := g_ift w2_4 h
    refine g_iload_n hx hb hl 3 rfl dJ11_vectorizedHashCode_116 ?_
    refine g_aload_n hx hb hl 0 rfl dJ11_vectorizedHashCode_117 ?_
    refine g_castA (k := 100) (C := "[I") hx hb hown hKn hS h (by decide) (by decide +kernel) (hts _ q1328) dJ11_vectorizedHashCode_118 (fun x118 h => ?_)
    refine g_iload_n hx hb hl 1 rfl dJ11_vectorizedHashCode_121 ?_
    refine g_iload_n hx hb hl 2 rfl dJ11_vectorizedHashCode_122 ?_
    exact g_no h
  have h := g_iff w2_4 h
  refine g_tableD (tgt := 129) hx hb dJ11_vectorizedHashCode_2 (by decide) [4, 5, 8, 9, 10] (by decide) (fun k hk => ?_) ?_
  · simp only [List.mem_cons, List.not_mem_nil, or_false] at hk
    rcases hk with rfl | rfl | rfl | rfl | rfl
    · exact w2_0
    · exact w2_1
    · exact w2_2
    · exact w2_3
    · exact w2_4
  exact g_no h
/-- java/util/Arrays.checkLength(II)V -/
def fJ13_checkLength (E : g_E) (v0 : Int32) (v1 : Int32) (G : g_G) : Option (g_G) :=
  if v0 ≤ v1 then (
    some G)
  else (
    none)
theorem sJ13_checkLength (l : Launch) (E : g_E) (D : g_D) {v0 : Int32} {v1 : Int32} {G : g_G} {q : g_G} (h : fJ13_checkLength E v0 v1 G = some q) : gMet l E D yJ13_checkLength (ws_ yJ13_checkLength cJ13_checkLength 2 (none)) 1 64 [.inl v0, .inl v1] G none q := by
  refine gMet.of (by decide +kernel) (Nat.le_of_ble_eq_true rfl) ?_
  intro p e R s m args below meth c C hS ls hl
  have C : gC p R s m args meth c cJ13_checkLength 2 RJ13 "checkLength" (none) 1 64 E D := C
  obtain ⟨hx, hb, hml, hown, hts, hKn, hRc, hRs, hc1, hc2, hRf, hRl, hr, hlk, hnm⟩ := id C
  have hl : gls ls 2 [(0, .inl v0), (1, .inl v1)] := hl
  generalize s.heap = H at hS ⊢
  unfold fJ13_checkLength at h
  refine g_iload_n hx hb hl 1 rfl dJ13_checkLength_0 ?_
  refine g_iload_n hx hb hl 0 rfl dJ13_checkLength_1 ?_
  refine lv_icmp_ge (tgt := 37) hx hb dJ13_checkLength_2 (by decide) (fun c_2 => ?_) (fun c_2 => ?_)
  · have h := g_ift c_2 h
    exact g_vretG hx hb hr hlk hKn hRc hRs hS h dJ13_checkLength_37
  · have h := g_iff c_2 h
    exact g_no h
/-- java/util/Arrays.copyOfRangeByte([BII)[B -/
def fJ13_copyOfRangeByte (E : g_E) (v0 : Option Nat) (v1 : Int32) (v2 : Int32) (G : g_G) : Option (Option Nat × g_G) :=
  (fJ13_checkLength E v1 v2 G).bind fun z2 =>
  (gnewA E z2 101 (v2 - v1)).bind fun z10 =>
  (galen z10.2 v0).bind fun x20 =>
  (gcopy E z10.2 v0 v1 (some z10.1) 0 (if (v2 - v1) < (x20 - v1) then (v2 - v1) else (x20 - v1))).bind fun G27 =>
  some ((some z10.1), G27)
theorem sJ13_copyOfRangeByte (l : Launch) (E : g_E) (D : g_D) {v0 : Option Nat} {v1 : Int32} {v2 : Int32} {G : g_G} {q : Option Nat × g_G} (h : fJ13_copyOfRangeByte E v0 v1 v2 G = some q) : gMet l E D yJ13_copyOfRangeByte (ws_ yJ13_copyOfRangeByte cJ13_copyOfRangeByte 5 (some (.array .byte))) 2 85 [.inr (.inr v0), .inl v1, .inl v2] G (some (va_rf q.1)) q.2 := by
  refine gMet.of (by decide +kernel) (Nat.le_of_ble_eq_true rfl) ?_
  intro p e R s m args below meth c C hS ls hl
  have C : gC p R s m args meth c cJ13_copyOfRangeByte 5 RJ13 "copyOfRangeByte" (some (.array .byte)) 2 85 E D := C
  obtain ⟨hx, hb, hml, hown, hts, hKn, hRc, hRs, hc1, hc2, hRf, hRl, hr, hlk, hnm⟩ := id C
  have hl : gls ls 5 [(0, .inr (.inr v0)), (1, .inl v1), (2, .inl v2)] := hl
  generalize s.heap = H at hS ⊢
  unfold fJ13_copyOfRangeByte at h
  refine g_iload_n hx hb hl 1 rfl dJ13_copyOfRangeByte_0 ?_
  refine g_iload_n hx hb hl 2 rfl dJ13_copyOfRangeByte_1 ?_
  obtain ⟨z2, h2, h⟩ := g_bnd h
  refine g_callS (n := 2) (av := [.inl v1, .inl v2]) (rs := []) hx hb hml hown hts hKn hRc hRs hS hl (sJ13_checkLength l E D h2) (lw_S q438 q439 q128 q440) ⟨by decide, by decide, by decide +kernel⟩ ⟨by rw [hRf]; exact Nat.le_of_ble_eq_true rfl, by rw [hRl]; exact Nat.le_of_ble_eq_true rfl⟩ rfl rfl (Nat.le_of_ble_eq_true rfl) dJ13_copyOfRangeByte_2 (fun H locs cells slots hS => ?_)
  refine g_iload_n hx hb hl 2 rfl dJ13_copyOfRangeByte_5 ?_
  refine g_iload_n hx hb hl 1 rfl dJ13_copyOfRangeByte_6 ?_
  refine lv_isub hx hb dJ13_copyOfRangeByte_7 ?_
  refine g_istore_n (l1 := [(3, .inl (v2 - v1)), (0, .inr (.inr v0)), (1, .inl v1), (2, .inl v2)]) hx hb hl (by decide) rfl dJ13_copyOfRangeByte_8 (fun ls hl => ?_)
  refine g_iload_n hx hb hl 0 rfl dJ13_copyOfRangeByte_9 ?_
  refine g_newaG (k := 101) (atype := .byte) hx hb hKn hRc hRs hS h (by decide) rfl (hts _ q258) dJ13_copyOfRangeByte_10 (fun z10 h H locs cells slots hS => ?_)
  refine g_astore (l1 := [(4, .inr (.inr (some z10.1))), (3, .inl (v2 - v1)), (0, .inr (.inr v0)), (1, .inl v1), (2, .inl v2)]) hx hb hl (by decide) rfl dJ13_copyOfRangeByte_12 (fun ls hl => ?_)
  refine g_aload_n hx hb hl 2 rfl dJ13_copyOfRangeByte_14 ?_
  refine g_iload_n hx hb hl 3 rfl dJ13_copyOfRangeByte_15 ?_
  refine g_aload hx hb hl 0 rfl dJ13_copyOfRangeByte_16 ?_
  refine lv_iconst (v := 0) hx hb dJ13_copyOfRangeByte_18 (by decide) ?_
  refine g_aload_n hx hb hl 2 rfl dJ13_copyOfRangeByte_19 ?_
  refine g_alen hx hb hKn hS h dJ13_copyOfRangeByte_20 (fun x20 h => ?_)
  refine g_iload_n hx hb hl 3 rfl dJ13_copyOfRangeByte_21 ?_
  refine lv_isub hx hb dJ13_copyOfRangeByte_22 ?_
  refine g_iload_n hx hb hl 1 rfl dJ13_copyOfRangeByte_23 ?_
  refine g_mmin (rs := [.inl 0, .inr (.inr (some z10.1)), .inl v1, .inr (.inr v0)]) hx hb hml hown hRc hRs hS hl (hts _ q300) (hts _ q301) (hts _ q127) (hts _ q302) (by decide +kernel) rfl (Nat.le_of_ble_eq_true rfl) ⟨by rw [hRf]; exact Nat.le_of_ble_eq_true rfl, by rw [hRl]; exact Nat.le_of_ble_eq_true rfl⟩ dJ13_copyOfRangeByte_24 (fun cells slots => ?_)
  refine g_copyG (rs := []) hx hb hml hown hts hKn hS hl h (hts _ q303) (hts _ q305) (hts _ q304) (hts _ q129) rfl (Nat.le_of_ble_eq_true rfl) ⟨by rw [hRf]; exact Nat.le_of_ble_eq_true rfl, by rw [hRl]; exact Nat.le_of_ble_eq_true rfl⟩ dJ13_copyOfRangeByte_27 (fun G27 h H locs hS => ?_)
  refine g_aload hx hb hl 0 rfl dJ13_copyOfRangeByte_30 ?_
  exact g_aretG hx hb hr (by first | exact Or.inl ⟨_, rfl⟩ | exact Or.inr ⟨_, rfl⟩) hlk hKn hRc hRs hS h dJ13_copyOfRangeByte_32
/-- java/util/Arrays.copyOf([Ljava/lang/Object;ILjava/lang/Class;)[Ljava/lang/Object; -/
def fJ13_copyOf_3 (E : g_E) (v0 : Option Nat) (v1 : Int32) (v2 : Option Nat) (G : g_G) : Option (Option Nat × g_G) :=
  if ¬ v2 = (some (gA E 7)) then (
    none)
  else (
    (gnewA E G 120 v1).bind fun z7 =>
    (galen z7.2 v0).bind fun x30 =>
    (gcopy E z7.2 v0 0 (some z7.1) 0 (if v1 < x30 then v1 else x30)).bind fun G35 =>
    some ((some z7.1), G35))
theorem sJ13_copyOf_3 (l : Launch) (E : g_E) (D : g_D) {v0 : Option Nat} {v1 : Int32} {v2 : Option Nat} {G : g_G} {q : Option Nat × g_G} (h : fJ13_copyOf_3 E v0 v1 v2 G = some q) : gMet l E D yJ13_copyOf_3 (ws_ yJ13_copyOf_3 cJ13_copyOf_3 4 (some (.array (.object "java/lang/Object")))) 1 80 [.inr (.inr v0), .inl v1, .inr (.inr v2)] G (some (va_rf q.1)) q.2 := by
  refine gMet.of (by decide +kernel) (Nat.le_of_ble_eq_true rfl) ?_
  intro p e R s m args below meth c C hS ls hl
  have C : gC p R s m args meth c cJ13_copyOf_3 4 RJ13 "copyOf" (some (.array (.object "java/lang/Object"))) 1 80 E D := C
  obtain ⟨hx, hb, hml, hown, hts, hKn, hRc, hRs, hc1, hc2, hRf, hRl, hr, hlk, hnm⟩ := id C
  have hl : gls ls 4 [(0, .inr (.inr v0)), (1, .inl v1), (2, .inr (.inr v2))] := hl
  generalize s.heap = H at hS ⊢
  unfold fJ13_copyOf_3 at h
  refine g_aload_n hx hb hl 2 rfl dJ13_copyOf_3_0 ?_
  refine g_ldcM hx hb hown hKn (hts _ q1059) dJ13_copyOf_3_1 ?_
  refine lv_acmp_ne (tgt := 13) hx hb dJ13_copyOf_3_3 (by decide) (fun c_3 => ?_) (fun c_3 => ?_)
  · have h := g_ift c_3 h
    refine g_aload_n hx hb hl 2 rfl dJ13_copyOf_3_13 ?_
    exact g_no h
  · have h := g_iff (fun z => z c_3) h
    refine g_iload_n hx hb hl 1 rfl dJ13_copyOf_3_6 ?_
    refine g_newqG (k := 120) (C := "java/lang/Object") hx hb hown hKn hRc hRs hS h (by decide) rfl (List.mem_of_getElem? (i := 0) rfl) (hts _ q1060) dJ13_copyOf_3_7 (fun z7 h H locs cells slots hS => ?_)
    refine lv_goto (tgt := 24) hx hb dJ13_copyOf_3_10 (by decide) ?_
    refine g_astore_n (l1 := [(3, .inr (.inr (some z7.1))), (0, .inr (.inr v0)), (1, .inl v1), (2, .inr (.inr v2))]) hx hb hl (by decide) rfl dJ13_copyOf_3_24 (fun ls hl => ?_)
    refine g_aload_n hx hb hl 1 rfl dJ13_copyOf_3_25 ?_
    refine lv_iconst (v := 0) hx hb dJ13_copyOf_3_26 (by decide) ?_
    refine g_aload_n hx hb hl 0 rfl dJ13_copyOf_3_27 ?_
    refine lv_iconst (v := 0) hx hb dJ13_copyOf_3_28 (by decide) ?_
    refine g_aload_n hx hb hl 1 rfl dJ13_copyOf_3_29 ?_
    refine g_alen hx hb hKn hS h dJ13_copyOf_3_30 (fun x30 h => ?_)
    refine g_iload_n hx hb hl 2 rfl dJ13_copyOf_3_31 ?_
    refine g_mmin (rs := [.inl 0, .inr (.inr (some z7.1)), .inl 0, .inr (.inr v0)]) hx hb hml hown hRc hRs hS hl (hts _ q300) (hts _ q301) (hts _ q127) (hts _ q302) (by decide +kernel) rfl (Nat.le_of_ble_eq_true rfl) ⟨by rw [hRf]; exact Nat.le_of_ble_eq_true rfl, by rw [hRl]; exact Nat.le_of_ble_eq_true rfl⟩ dJ13_copyOf_3_32 (fun cells slots => ?_)
    refine g_copyG (rs := []) hx hb hml hown hts hKn hS hl h (hts _ q303) (hts _ q305) (hts _ q304) (hts _ q129) rfl (Nat.le_of_ble_eq_true rfl) ⟨by rw [hRf]; exact Nat.le_of_ble_eq_true rfl, by rw [hRl]; exact Nat.le_of_ble_eq_true rfl⟩ dJ13_copyOf_3_35 (fun G35 h H locs hS => ?_)
    refine g_aload_n hx hb hl 0 rfl dJ13_copyOf_3_38 ?_
    exact g_aretG hx hb hr (by first | exact Or.inl ⟨_, rfl⟩ | exact Or.inr ⟨_, rfl⟩) hlk hKn hRc hRs hS h dJ13_copyOf_3_39
/-- jdk/internal/util/Preconditions.checkFromIndexSize(IIILjava/util/function/BiFunction;)I -/
def fJ14_checkFromIndexSize_b15 (E : g_E) (v0 : Int32) (v1 : Int32) (v2 : Int32) (v3 : Option Nat) (G : g_G) : Option (Int32 × g_G) :=
  none
def fJ14_checkFromIndexSize (E : g_E) (v0 : Int32) (v1 : Int32) (v2 : Int32) (v3 : Option Nat) (G : g_G) : Option (Int32 × g_G) :=
  if ((v2 ||| v0) ||| v1) < 0 then (
    fJ14_checkFromIndexSize_b15 E v0 v1 v2 v3 G)
  else (
    if v1 ≤ (v2 - v0) then (
      some (v0, G))
    else (
      fJ14_checkFromIndexSize_b15 E v0 v1 v2 v3 G))
theorem sJ14_checkFromIndexSize_b15 {p : Program} {l : Launch} {e : Env} {R : Room} {s : State} {m : MethodId} {args : Array Value} {below : List Frame} {meth : Method} {c : Code} {E : g_E} {D : g_D} (C : gC p R s m args meth c cJ14_checkFromIndexSize 4 RJ14 "checkFromIndexSize" (some .int) 1 64 E D) : ∀ (v0 : Int32) (v1 : Int32) (v2 : Int32) (v3 : Option Nat) (G : g_G) (q : Int32 × g_G), fJ14_checkFromIndexSize_b15 E v0 v1 v2 v3 G = some q → ∀ (H : Heap) (locs : List Loc) (cells slots : Nat) (ls : Array Slot), gSt E D G H locs → gls ls 4 [(0, .inl v0), (1, .inl v1), (2, .inl v2), (3, .inr (.inr v3))] → gT p l e R s m args below meth c E D H locs cells slots (some (.int q.1)) q.2 (F0 m 15 ls []) := by
  obtain ⟨hx, hb, hml, hown, hts, hKn, hRc, hRs, hc1, hc2, hRf, hRl, hr, hlk, hnm⟩ := id C
  intro v0 v1 v2 v3 G q h H locs cells slots ls hS hl
  unfold fJ14_checkFromIndexSize_b15 at h
  refine g_aload_n hx hb hl 3 rfl dJ14_checkFromIndexSize_15 ?_
  refine g_iload_n hx hb hl 0 rfl dJ14_checkFromIndexSize_16 ?_
  refine g_iload_n hx hb hl 1 rfl dJ14_checkFromIndexSize_17 ?_
  refine g_iload_n hx hb hl 2 rfl dJ14_checkFromIndexSize_18 ?_
  exact g_no h
theorem sJ14_checkFromIndexSize (l : Launch) (E : g_E) (D : g_D) {v0 : Int32} {v1 : Int32} {v2 : Int32} {v3 : Option Nat} {G : g_G} {q : Int32 × g_G} (h : fJ14_checkFromIndexSize E v0 v1 v2 v3 G = some q) : gMet l E D yJ14_checkFromIndexSize (ws_ yJ14_checkFromIndexSize cJ14_checkFromIndexSize 4 (some .int)) 1 64 [.inl v0, .inl v1, .inl v2, .inr (.inr v3)] G (some (.int q.1)) q.2 := by
  refine gMet.of (by decide +kernel) (Nat.le_of_ble_eq_true rfl) ?_
  intro p e R s m args below meth c C hS ls hl
  have C : gC p R s m args meth c cJ14_checkFromIndexSize 4 RJ14 "checkFromIndexSize" (some .int) 1 64 E D := C
  obtain ⟨hx, hb, hml, hown, hts, hKn, hRc, hRs, hc1, hc2, hRf, hRl, hr, hlk, hnm⟩ := id C
  have hl : gls ls 4 [(0, .inl v0), (1, .inl v1), (2, .inl v2), (3, .inr (.inr v3))] := hl
  generalize s.heap = H at hS ⊢
  unfold fJ14_checkFromIndexSize at h
  refine g_iload_n hx hb hl 2 rfl dJ14_checkFromIndexSize_0 ?_
  refine g_iload_n hx hb hl 0 rfl dJ14_checkFromIndexSize_1 ?_
  refine lv_ior hx hb dJ14_checkFromIndexSize_2 ?_
  refine g_iload_n hx hb hl 1 rfl dJ14_checkFromIndexSize_3 ?_
  refine lv_ior hx hb dJ14_checkFromIndexSize_4 ?_
  refine lv_if_lt (tgt := 15) hx hb dJ14_checkFromIndexSize_5 (by decide) (fun c_5 => ?_) (fun c_5 => ?_)
  · have h := g_ift c_5 h
    exact sJ14_checkFromIndexSize_b15 C _ _ _ _ _ _ h _ _ _ _ _ hS (gls_sub hl [0, 1, 2, 3] rfl)
  · have h := g_iff c_5 h
    refine g_iload_n hx hb hl 1 rfl dJ14_checkFromIndexSize_8 ?_
    refine g_iload_n hx hb hl 2 rfl dJ14_checkFromIndexSize_9 ?_
    refine g_iload_n hx hb hl 0 rfl dJ14_checkFromIndexSize_10 ?_
    refine lv_isub hx hb dJ14_checkFromIndexSize_11 ?_
    refine lv_icmp_le (tgt := 23) hx hb dJ14_checkFromIndexSize_12 (by decide) (fun c_12 => ?_) (fun c_12 => ?_)
    · have h := g_ift c_12 h
      refine g_iload_n hx hb hl 0 rfl dJ14_checkFromIndexSize_23 ?_
      exact g_iretG hx hb hr hlk hKn hRc hRs hS h dJ14_checkFromIndexSize_24
    · have h := g_iff c_12 h
      exact sJ14_checkFromIndexSize_b15 C _ _ _ _ _ _ h _ _ _ _ _ hS (gls_sub hl [0, 1, 2, 3] rfl)
/-- jdk/internal/util/Preconditions.checkFromToIndex(IIILjava/util/function/BiFunction;)I -/
def fJ14_checkFromToIndex_b14 (E : g_E) (v0 : Int32) (v1 : Int32) (v2 : Int32) (v3 : Option Nat) (G : g_G) : Option (Int32 × g_G) :=
  none
def fJ14_checkFromToIndex (E : g_E) (v0 : Int32) (v1 : Int32) (v2 : Int32) (v3 : Option Nat) (G : g_G) : Option (Int32 × g_G) :=
  if v0 < 0 then (
    fJ14_checkFromToIndex_b14 E v0 v1 v2 v3 G)
  else (
    if v1 < v0 then (
      fJ14_checkFromToIndex_b14 E v0 v1 v2 v3 G)
    else (
      if v1 ≤ v2 then (
        some (v0, G))
      else (
        fJ14_checkFromToIndex_b14 E v0 v1 v2 v3 G)))
theorem sJ14_checkFromToIndex_b14 {p : Program} {l : Launch} {e : Env} {R : Room} {s : State} {m : MethodId} {args : Array Value} {below : List Frame} {meth : Method} {c : Code} {E : g_E} {D : g_D} (C : gC p R s m args meth c cJ14_checkFromToIndex 4 RJ14 "checkFromToIndex" (some .int) 1 64 E D) : ∀ (v0 : Int32) (v1 : Int32) (v2 : Int32) (v3 : Option Nat) (G : g_G) (q : Int32 × g_G), fJ14_checkFromToIndex_b14 E v0 v1 v2 v3 G = some q → ∀ (H : Heap) (locs : List Loc) (cells slots : Nat) (ls : Array Slot), gSt E D G H locs → gls ls 4 [(0, .inl v0), (1, .inl v1), (2, .inl v2), (3, .inr (.inr v3))] → gT p l e R s m args below meth c E D H locs cells slots (some (.int q.1)) q.2 (F0 m 14 ls []) := by
  obtain ⟨hx, hb, hml, hown, hts, hKn, hRc, hRs, hc1, hc2, hRf, hRl, hr, hlk, hnm⟩ := id C
  intro v0 v1 v2 v3 G q h H locs cells slots ls hS hl
  unfold fJ14_checkFromToIndex_b14 at h
  refine g_aload_n hx hb hl 3 rfl dJ14_checkFromToIndex_14 ?_
  refine g_iload_n hx hb hl 0 rfl dJ14_checkFromToIndex_15 ?_
  refine g_iload_n hx hb hl 1 rfl dJ14_checkFromToIndex_16 ?_
  refine g_iload_n hx hb hl 2 rfl dJ14_checkFromToIndex_17 ?_
  exact g_no h
theorem sJ14_checkFromToIndex (l : Launch) (E : g_E) (D : g_D) {v0 : Int32} {v1 : Int32} {v2 : Int32} {v3 : Option Nat} {G : g_G} {q : Int32 × g_G} (h : fJ14_checkFromToIndex E v0 v1 v2 v3 G = some q) : gMet l E D yJ14_checkFromToIndex (ws_ yJ14_checkFromToIndex cJ14_checkFromToIndex 4 (some .int)) 1 64 [.inl v0, .inl v1, .inl v2, .inr (.inr v3)] G (some (.int q.1)) q.2 := by
  refine gMet.of (by decide +kernel) (Nat.le_of_ble_eq_true rfl) ?_
  intro p e R s m args below meth c C hS ls hl
  have C : gC p R s m args meth c cJ14_checkFromToIndex 4 RJ14 "checkFromToIndex" (some .int) 1 64 E D := C
  obtain ⟨hx, hb, hml, hown, hts, hKn, hRc, hRs, hc1, hc2, hRf, hRl, hr, hlk, hnm⟩ := id C
  have hl : gls ls 4 [(0, .inl v0), (1, .inl v1), (2, .inl v2), (3, .inr (.inr v3))] := hl
  generalize s.heap = H at hS ⊢
  unfold fJ14_checkFromToIndex at h
  refine g_iload_n hx hb hl 0 rfl dJ14_checkFromToIndex_0 ?_
  refine lv_if_lt (tgt := 14) hx hb dJ14_checkFromToIndex_1 (by decide) (fun c_1 => ?_) (fun c_1 => ?_)
  · have h := g_ift c_1 h
    exact sJ14_checkFromToIndex_b14 C _ _ _ _ _ _ h _ _ _ _ _ hS (gls_sub hl [0, 1, 2, 3] rfl)
  · have h := g_iff c_1 h
    refine g_iload_n hx hb hl 0 rfl dJ14_checkFromToIndex_4 ?_
    refine g_iload_n hx hb hl 1 rfl dJ14_checkFromToIndex_5 ?_
    refine lv_icmp_gt (tgt := 14) hx hb dJ14_checkFromToIndex_6 (by decide) (fun c_6 => ?_) (fun c_6 => ?_)
    · have h := g_ift c_6 h
      exact sJ14_checkFromToIndex_b14 C _ _ _ _ _ _ h _ _ _ _ _ hS (gls_sub hl [0, 1, 2, 3] rfl)
    · have h := g_iff c_6 h
      refine g_iload_n hx hb hl 1 rfl dJ14_checkFromToIndex_9 ?_
      refine g_iload_n hx hb hl 2 rfl dJ14_checkFromToIndex_10 ?_
      refine lv_icmp_le (tgt := 22) hx hb dJ14_checkFromToIndex_11 (by decide) (fun c_11 => ?_) (fun c_11 => ?_)
      · have h := g_ift c_11 h
        refine g_iload_n hx hb hl 0 rfl dJ14_checkFromToIndex_22 ?_
        exact g_iretG hx hb hr hlk hKn hRc hRs hS h dJ14_checkFromToIndex_23
      · have h := g_iff c_11 h
        exact sJ14_checkFromToIndex_b14 C _ _ _ _ _ _ h _ _ _ _ _ hS (gls_sub hl [0, 1, 2, 3] rfl)
/-- jdk/internal/util/Preconditions.checkIndex(IILjava/util/function/BiFunction;)I -/
def fJ14_checkIndex_b9 (E : g_E) (v0 : Int32) (v1 : Int32) (v2 : Option Nat) (G : g_G) : Option (Int32 × g_G) :=
  none
def fJ14_checkIndex (E : g_E) (v0 : Int32) (v1 : Int32) (v2 : Option Nat) (G : g_G) : Option (Int32 × g_G) :=
  if v0 < 0 then (
    fJ14_checkIndex_b9 E v0 v1 v2 G)
  else (
    if v0 < v1 then (
      some (v0, G))
    else (
      fJ14_checkIndex_b9 E v0 v1 v2 G))
theorem sJ14_checkIndex_b9 {p : Program} {l : Launch} {e : Env} {R : Room} {s : State} {m : MethodId} {args : Array Value} {below : List Frame} {meth : Method} {c : Code} {E : g_E} {D : g_D} (C : gC p R s m args meth c cJ14_checkIndex 3 RJ14 "checkIndex" (some .int) 1 64 E D) : ∀ (v0 : Int32) (v1 : Int32) (v2 : Option Nat) (G : g_G) (q : Int32 × g_G), fJ14_checkIndex_b9 E v0 v1 v2 G = some q → ∀ (H : Heap) (locs : List Loc) (cells slots : Nat) (ls : Array Slot), gSt E D G H locs → gls ls 3 [(0, .inl v0), (1, .inl v1), (2, .inr (.inr v2))] → gT p l e R s m args below meth c E D H locs cells slots (some (.int q.1)) q.2 (F0 m 9 ls []) := by
  obtain ⟨hx, hb, hml, hown, hts, hKn, hRc, hRs, hc1, hc2, hRf, hRl, hr, hlk, hnm⟩ := id C
  intro v0 v1 v2 G q h H locs cells slots ls hS hl
  unfold fJ14_checkIndex_b9 at h
  refine g_aload_n hx hb hl 2 rfl dJ14_checkIndex_9 ?_
  refine g_iload_n hx hb hl 0 rfl dJ14_checkIndex_10 ?_
  refine g_iload_n hx hb hl 1 rfl dJ14_checkIndex_11 ?_
  exact g_no h
theorem sJ14_checkIndex (l : Launch) (E : g_E) (D : g_D) {v0 : Int32} {v1 : Int32} {v2 : Option Nat} {G : g_G} {q : Int32 × g_G} (h : fJ14_checkIndex E v0 v1 v2 G = some q) : gMet l E D yJ14_checkIndex (ws_ yJ14_checkIndex cJ14_checkIndex 3 (some .int)) 1 64 [.inl v0, .inl v1, .inr (.inr v2)] G (some (.int q.1)) q.2 := by
  refine gMet.of (by decide +kernel) (Nat.le_of_ble_eq_true rfl) ?_
  intro p e R s m args below meth c C hS ls hl
  have C : gC p R s m args meth c cJ14_checkIndex 3 RJ14 "checkIndex" (some .int) 1 64 E D := C
  obtain ⟨hx, hb, hml, hown, hts, hKn, hRc, hRs, hc1, hc2, hRf, hRl, hr, hlk, hnm⟩ := id C
  have hl : gls ls 3 [(0, .inl v0), (1, .inl v1), (2, .inr (.inr v2))] := hl
  generalize s.heap = H at hS ⊢
  unfold fJ14_checkIndex at h
  refine g_iload_n hx hb hl 0 rfl dJ14_checkIndex_0 ?_
  refine lv_if_lt (tgt := 9) hx hb dJ14_checkIndex_1 (by decide) (fun c_1 => ?_) (fun c_1 => ?_)
  · have h := g_ift c_1 h
    exact sJ14_checkIndex_b9 C _ _ _ _ _ h _ _ _ _ _ hS (gls_sub hl [0, 1, 2] rfl)
  · have h := g_iff c_1 h
    refine g_iload_n hx hb hl 0 rfl dJ14_checkIndex_4 ?_
    refine g_iload_n hx hb hl 1 rfl dJ14_checkIndex_5 ?_
    refine lv_icmp_lt (tgt := 16) hx hb dJ14_checkIndex_6 (by decide) (fun c_6 => ?_) (fun c_6 => ?_)
    · have h := g_ift c_6 h
      refine g_iload_n hx hb hl 0 rfl dJ14_checkIndex_16 ?_
      exact g_iretG hx hb hr hlk hKn hRc hRs hS h dJ14_checkIndex_17
    · have h := g_iff c_6 h
      exact sJ14_checkIndex_b9 C _ _ _ _ _ h _ _ _ _ _ hS (gls_sub hl [0, 1, 2] rfl)
/-- java/lang/StringLatin1.canEncode(C)Z -/
def fJ15_canEncode (E : g_E) (v0 : Int32) (G : g_G) : Option (Int32 × g_G) :=
  if (255 : Int32) < v0 then (
    if (0 : Int32) = 0 ∨ (0 : Int32) = 1 then some (0, G) else none)
  else (
    if (1 : Int32) = 0 ∨ (1 : Int32) = 1 then some (1, G) else none)
theorem sJ15_canEncode (l : Launch) (E : g_E) (D : g_D) {v0 : Int32} {G : g_G} {q : Int32 × g_G} (h : fJ15_canEncode E v0 G = some q) : gMet l E D yJ15_canEncode (ws_ yJ15_canEncode cJ15_canEncode 1 (some .boolean)) 1 64 [.inl v0] G (some (.int q.1)) q.2 := by
  refine gMet.of (by decide +kernel) (Nat.le_of_ble_eq_true rfl) ?_
  intro p e R s m args below meth c C hS ls hl
  have C : gC p R s m args meth c cJ15_canEncode 1 RJ15 "canEncode" (some .boolean) 1 64 E D := C
  obtain ⟨hx, hb, hml, hown, hts, hKn, hRc, hRs, hc1, hc2, hRf, hRl, hr, hlk, hnm⟩ := id C
  have hl : gls ls 1 [(0, .inl v0)] := hl
  generalize s.heap = H at hS ⊢
  unfold fJ15_canEncode at h
  refine g_iload_n hx hb hl 0 rfl dJ15_canEncode_0 ?_
  refine lv_sipush (v := 255) hx hb dJ15_canEncode_1 (by decide) ?_
  refine lv_icmp_gt (tgt := 11) hx hb dJ15_canEncode_4 (by decide) (fun c_4 => ?_) (fun c_4 => ?_)
  · have h := g_ift c_4 h
    refine lv_iconst (v := 0) hx hb dJ15_canEncode_11 (by decide) ?_
    exact g_zretG hx hb hr hlk hKn hRc hRs hS h dJ15_canEncode_12
  · have h := g_iff c_4 h
    refine lv_iconst (v := 1) hx hb dJ15_canEncode_7 (by decide) ?_
    refine lv_goto (tgt := 12) hx hb dJ15_canEncode_8 (by decide) ?_
    exact g_zretG hx hb hr hlk hKn hRc hRs hS h dJ15_canEncode_12
/-- java/lang/StringLatin1.canEncode(I)Z -/
def fJ15_canEncode_2 (E : g_E) (v0 : Int32) (G : g_G) : Option (Int32 × g_G) :=
  if v0 < 0 then (
    if (0 : Int32) = 0 ∨ (0 : Int32) = 1 then some (0, G) else none)
  else (
    if (255 : Int32) < v0 then (
      if (0 : Int32) = 0 ∨ (0 : Int32) = 1 then some (0, G) else none)
    else (
      if (1 : Int32) = 0 ∨ (1 : Int32) = 1 then some (1, G) else none))
theorem sJ15_canEncode_2 (l : Launch) (E : g_E) (D : g_D) {v0 : Int32} {G : g_G} {q : Int32 × g_G} (h : fJ15_canEncode_2 E v0 G = some q) : gMet l E D yJ15_canEncode_2 (ws_ yJ15_canEncode_2 cJ15_canEncode_2 1 (some .boolean)) 1 64 [.inl v0] G (some (.int q.1)) q.2 := by
  refine gMet.of (by decide +kernel) (Nat.le_of_ble_eq_true rfl) ?_
  intro p e R s m args below meth c C hS ls hl
  have C : gC p R s m args meth c cJ15_canEncode_2 1 RJ15 "canEncode" (some .boolean) 1 64 E D := C
  obtain ⟨hx, hb, hml, hown, hts, hKn, hRc, hRs, hc1, hc2, hRf, hRl, hr, hlk, hnm⟩ := id C
  have hl : gls ls 1 [(0, .inl v0)] := hl
  generalize s.heap = H at hS ⊢
  unfold fJ15_canEncode_2 at h
  refine g_iload_n hx hb hl 0 rfl dJ15_canEncode_2_0 ?_
  refine lv_if_lt (tgt := 15) hx hb dJ15_canEncode_2_1 (by decide) (fun c_1 => ?_) (fun c_1 => ?_)
  · have h := g_ift c_1 h
    refine lv_iconst (v := 0) hx hb dJ15_canEncode_2_15 (by decide) ?_
    exact g_zretG hx hb hr hlk hKn hRc hRs hS h dJ15_canEncode_2_16
  · have h := g_iff c_1 h
    refine g_iload_n hx hb hl 0 rfl dJ15_canEncode_2_4 ?_
    refine lv_sipush (v := 255) hx hb dJ15_canEncode_2_5 (by decide) ?_
    refine lv_icmp_gt (tgt := 15) hx hb dJ15_canEncode_2_8 (by decide) (fun c_8 => ?_) (fun c_8 => ?_)
    · have h := g_ift c_8 h
      refine lv_iconst (v := 0) hx hb dJ15_canEncode_2_15 (by decide) ?_
      exact g_zretG hx hb hr hlk hKn hRc hRs hS h dJ15_canEncode_2_16
    · have h := g_iff c_8 h
      refine lv_iconst (v := 1) hx hb dJ15_canEncode_2_11 (by decide) ?_
      refine lv_goto (tgt := 16) hx hb dJ15_canEncode_2_12 (by decide) ?_
      exact g_zretG hx hb hr hlk hKn hRc hRs hS h dJ15_canEncode_2_16
/-- java/lang/StringLatin1.equals([B[B)Z -/
def fJ15_equals_b9 (E : g_E) : Nat → (Option Nat) → (Option Nat) → Int32 → g_G → Option (Int32 × g_G)
  | 0, _, _, _, _ => none
  | n + 1, v0, v1, v2, G =>
    (galen G v0).bind fun x11 =>
    if x11 ≤ v2 then (
      if (1 : Int32) = 0 ∨ (1 : Int32) = 1 then some (1, G) else none)
    else (
      (gaI G 101 v0 v2).bind fun x17 =>
      (gaI G 101 v1 v2).bind fun x20 =>
      if x17 = x20 then (
        fJ15_equals_b9 E n v0 v1 (v2 + 1) G)
      else (
        if (0 : Int32) = 0 ∨ (0 : Int32) = 1 then some (0, G) else none))
def fJ15_equals (E : g_E) (v0 : Option Nat) (v1 : Option Nat) (G : g_G) : Option (Int32 × g_G) :=
  (galen G v0).bind fun x1 =>
  (galen G v1).bind fun x3 =>
  if ¬ x1 = x3 then (
    if (0 : Int32) = 0 ∨ (0 : Int32) = 1 then some (0, G) else none)
  else (
    fJ15_equals_b9 E gFU v0 v1 0 G)
theorem sJ15_equals_b9 {p : Program} {l : Launch} {e : Env} {R : Room} {s : State} {m : MethodId} {args : Array Value} {below : List Frame} {meth : Method} {c : Code} {E : g_E} {D : g_D} (C : gC p R s m args meth c cJ15_equals 3 RJ15 "equals" (some .boolean) 1 64 E D) : ∀ (n : Nat) (v0 : Option Nat) (v1 : Option Nat) (v2 : Int32) (G : g_G) (q : Int32 × g_G), fJ15_equals_b9 E n v0 v1 v2 G = some q → ∀ (H : Heap) (locs : List Loc) (cells slots : Nat) (ls : Array Slot), gSt E D G H locs → gls ls 3 [(0, .inr (.inr v0)), (1, .inr (.inr v1)), (2, .inl v2)] → gT p l e R s m args below meth c E D H locs cells slots (some (.int q.1)) q.2 (F0 m 9 ls []) := by
  obtain ⟨hx, hb, hml, hown, hts, hKn, hRc, hRs, hc1, hc2, hRf, hRl, hr, hlk, hnm⟩ := id C
  intro n
  induction n with
  | zero =>
    intro v0 v1 v2 G q h
    exact g_no h
  | succ n ih =>
    intro v0 v1 v2 G q h H locs cells slots ls hS hl
    rw [fJ15_equals_b9] at h
    refine g_iload_n hx hb hl 2 rfl dJ15_equals_9 ?_
    refine g_aload_n hx hb hl 0 rfl dJ15_equals_10 ?_
    refine g_alen hx hb hKn hS h dJ15_equals_11 (fun x11 h => ?_)
    refine lv_icmp_ge (tgt := 32) hx hb dJ15_equals_12 (by decide) (fun c_12 => ?_) (fun c_12 => ?_)
    · have h := g_ift c_12 h
      refine lv_iconst (v := 1) hx hb dJ15_equals_32 (by decide) ?_
      exact g_zretG hx hb hr hlk hKn hRc hRs hS h dJ15_equals_33
    · have h := g_iff c_12 h
      refine g_aload_n hx hb hl 0 rfl dJ15_equals_15 ?_
      refine g_iload_n hx hb hl 2 rfl dJ15_equals_16 ?_
      refine g_baloadG hx hb hKn hS h dJ15_equals_17 (fun x17 h => ?_)
      refine g_aload_n hx hb hl 1 rfl dJ15_equals_18 ?_
      refine g_iload_n hx hb hl 2 rfl dJ15_equals_19 ?_
      refine g_baloadG hx hb hKn hS h dJ15_equals_20 (fun x20 h => ?_)
      refine lv_icmp_eq (tgt := 26) hx hb dJ15_equals_21 (by decide) (fun c_21 => ?_) (fun c_21 => ?_)
      · have h := g_ift c_21 h
        refine g_iinc (l1 := [(2, .inl (v2 + 1)), (0, .inr (.inr v0)), (1, .inr (.inr v1))]) (v := (v2 + 1)) hx hb hl (k := 2) rfl (by rfl) (by decide) rfl dJ15_equals_26 (fun ls hl => ?_)
        refine lv_goto (tgt := 9) hx hb dJ15_equals_29 (by decide) ?_
        exact ih _ _ _ _ _ h _ _ _ _ _ hS (gls_sub hl [1, 2, 0] rfl)
      · have h := g_iff c_21 h
        refine lv_iconst (v := 0) hx hb dJ15_equals_24 (by decide) ?_
        exact g_zretG hx hb hr hlk hKn hRc hRs hS h dJ15_equals_25
theorem sJ15_equals (l : Launch) (E : g_E) (D : g_D) {v0 : Option Nat} {v1 : Option Nat} {G : g_G} {q : Int32 × g_G} (h : fJ15_equals E v0 v1 G = some q) : gMet l E D yJ15_equals (ws_ yJ15_equals cJ15_equals 3 (some .boolean)) 1 64 [.inr (.inr v0), .inr (.inr v1)] G (some (.int q.1)) q.2 := by
  refine gMet.of (by decide +kernel) (Nat.le_of_ble_eq_true rfl) ?_
  intro p e R s m args below meth c C hS ls hl
  have C : gC p R s m args meth c cJ15_equals 3 RJ15 "equals" (some .boolean) 1 64 E D := C
  obtain ⟨hx, hb, hml, hown, hts, hKn, hRc, hRs, hc1, hc2, hRf, hRl, hr, hlk, hnm⟩ := id C
  have hl : gls ls 3 [(0, .inr (.inr v0)), (1, .inr (.inr v1))] := hl
  generalize s.heap = H at hS ⊢
  unfold fJ15_equals at h
  refine g_aload_n hx hb hl 0 rfl dJ15_equals_0 ?_
  refine g_alen hx hb hKn hS h dJ15_equals_1 (fun x1 h => ?_)
  refine g_aload_n hx hb hl 1 rfl dJ15_equals_2 ?_
  refine g_alen hx hb hKn hS h dJ15_equals_3 (fun x3 h => ?_)
  refine lv_icmp_ne (tgt := 34) hx hb dJ15_equals_4 (by decide) (fun c_4 => ?_) (fun c_4 => ?_)
  · have h := g_ift c_4 h
    refine lv_iconst (v := 0) hx hb dJ15_equals_34 (by decide) ?_
    exact g_zretG hx hb hr hlk hKn hRc hRs hS h dJ15_equals_35
  · have h := g_iff (fun z => z c_4) h
    refine lv_iconst (v := 0) hx hb dJ15_equals_7 (by decide) ?_
    refine g_istore_n (l1 := [(2, .inl 0), (0, .inr (.inr v0)), (1, .inr (.inr v1))]) hx hb hl (by decide) rfl dJ15_equals_8 (fun ls hl => ?_)
    exact sJ15_equals_b9 C gFU _ _ _ _ _ h _ _ _ _ _ hS (gls_sub hl [1, 2, 0] rfl)
/-- java/lang/StringLatin1.hashCode([B)I -/
def fJ15_hashCode (E : g_E) (v0 : Option Nat) (G : g_G) : Option (Int32 × g_G) :=
  (galen G v0).bind fun x1 =>
  if x1 = 0 then (
    some (0, G))
  else
  if x1 = 1 then (
    (gaI G 101 v0 0).bind fun x34 =>
    some ((x34 &&& 255), G))
  else
  (
    (galen G v0).bind fun x45 =>
    (fJ11_vectorizedHashCode E v0 0 x45 0 4 G).bind fun z48 =>
    some (z48.1, z48.2))
theorem sJ15_hashCode (l : Launch) (E : g_E) (D : g_D) {v0 : Option Nat} {G : g_G} {q : Int32 × g_G} (h : fJ15_hashCode E v0 G = some q) : gMet l E D yJ15_hashCode (ws_ yJ15_hashCode cJ15_hashCode 1 (some .int)) 3 113 [.inr (.inr v0)] G (some (.int q.1)) q.2 := by
  refine gMet.of (by decide +kernel) (Nat.le_of_ble_eq_true rfl) ?_
  intro p e R s m args below meth c C hS ls hl
  have C : gC p R s m args meth c cJ15_hashCode 1 RJ15 "hashCode" (some .int) 3 113 E D := C
  obtain ⟨hx, hb, hml, hown, hts, hKn, hRc, hRs, hc1, hc2, hRf, hRl, hr, hlk, hnm⟩ := id C
  have hl : gls ls 1 [(0, .inr (.inr v0))] := hl
  generalize s.heap = H at hS ⊢
  unfold fJ15_hashCode at h
  refine g_aload_n hx hb hl 0 rfl dJ15_hashCode_0 ?_
  refine g_alen hx hb hKn hS h dJ15_hashCode_1 (fun x1 h => ?_)
  by_cases w2_0 : x1 = 0
  · refine lv_lookup (tgt := 28) (off := 26) hx hb dJ15_hashCode_2 (by decide) (by rw [w2_0]; decide) (by decide) ?_
    have h := g_ift w2_0 h
    refine lv_iconst (v := 0) hx hb dJ15_hashCode_28 (by decide) ?_
    refine lv_goto (tgt := 51) hx hb dJ15_hashCode_29 (by decide) ?_
    exact g_iretG hx hb hr hlk hKn hRc hRs hS h dJ15_hashCode_51
  have h := g_iff w2_0 h
  by_cases w2_1 : x1 = 1
  · refine lv_lookup (tgt := 32) (off := 30) hx hb dJ15_hashCode_2 (by decide) (by rw [w2_1]; decide) (by decide) ?_
    have h := g_ift w2_1 h
    refine g_aload_n hx hb hl 0 rfl dJ15_hashCode_32 ?_
    refine lv_iconst (v := 0) hx hb dJ15_hashCode_33 (by decide) ?_
    refine g_baloadG hx hb hKn hS h dJ15_hashCode_34 (fun x34 h => ?_)
    refine lv_sipush (v := 255) hx hb dJ15_hashCode_35 (by decide) ?_
    refine lv_iand hx hb dJ15_hashCode_38 ?_
    refine lv_goto (tgt := 51) hx hb dJ15_hashCode_39 (by decide) ?_
    exact g_iretG hx hb hr hlk hKn hRc hRs hS h dJ15_hashCode_51
  have h := g_iff w2_1 h
  refine g_lookupD (tgt := 42) hx hb dJ15_hashCode_2 (by decide) [0, 1] (by decide) (fun k hk => ?_) (by decide) ?_
  · simp only [List.mem_cons, List.not_mem_nil, or_false] at hk
    rcases hk with rfl | rfl
    · exact w2_0
    · exact w2_1
  refine g_aload_n hx hb hl 0 rfl dJ15_hashCode_42 ?_
  refine lv_iconst (v := 0) hx hb dJ15_hashCode_43 (by decide) ?_
  refine g_aload_n hx hb hl 0 rfl dJ15_hashCode_44 ?_
  refine g_alen hx hb hKn hS h dJ15_hashCode_45 (fun x45 h => ?_)
  refine lv_iconst (v := 0) hx hb dJ15_hashCode_46 (by decide) ?_
  refine lv_iconst (v := 4) hx hb dJ15_hashCode_47 (by decide) ?_
  obtain ⟨z48, h48, h⟩ := g_bnd h
  refine g_callS (n := 5) (av := [.inr (.inr v0), .inl 0, .inl x45, .inl 0, .inl 4]) (rs := []) hx hb hml hown hts hKn hRc hRs hS hl (sJ11_vectorizedHashCode l E D h48) (lw_S q1294 q1295 q126 q1296) ⟨by decide, by decide, by decide +kernel⟩ ⟨by rw [hRf]; exact Nat.le_of_ble_eq_true rfl, by rw [hRl]; exact Nat.le_of_ble_eq_true rfl⟩ rfl rfl (Nat.le_of_ble_eq_true rfl) dJ15_hashCode_48 (fun H locs cells slots hS => ?_)
  exact g_iretG hx hb hr hlk hKn hRc hRs hS h dJ15_hashCode_51
/-- java/lang/StringLatin1.indexOfChar([BIII)I -/
def fJ15_indexOfChar_b7 (E : g_E) : Nat → (Option Nat) → Int32 → Int32 → Int32 → g_G → Option (Int32 × g_G)
  | 0, _, _, _, _, _ => none
  | n + 1, v0, v3, v4, v5, G =>
    if v3 ≤ v5 then (
      some ((-1), G))
    else (
      (gaI G 101 v0 v5).bind fun x16 =>
      if ¬ x16 = v4 then (
        fJ15_indexOfChar_b7 E n v0 v3 v4 (v5 + 1) G)
      else (
        some (v5, G)))
def fJ15_indexOfChar (E : g_E) (v0 : Option Nat) (v1 : Int32) (v2 : Int32) (v3 : Int32) (G : g_G) : Option (Int32 × g_G) :=
  fJ15_indexOfChar_b7 E gFU v0 v3 (Int8.toInt32 (Int32.toInt8 v1)) v2 G
theorem sJ15_indexOfChar_b7 {p : Program} {l : Launch} {e : Env} {R : Room} {s : State} {m : MethodId} {args : Array Value} {below : List Frame} {meth : Method} {c : Code} {E : g_E} {D : g_D} (C : gC p R s m args meth c cJ15_indexOfChar 6 RJ15 "indexOfChar" (some .int) 1 64 E D) : ∀ (n : Nat) (v0 : Option Nat) (v3 : Int32) (v4 : Int32) (v5 : Int32) (G : g_G) (q : Int32 × g_G), fJ15_indexOfChar_b7 E n v0 v3 v4 v5 G = some q → ∀ (H : Heap) (locs : List Loc) (cells slots : Nat) (ls : Array Slot), gSt E D G H locs → gls ls 6 [(0, .inr (.inr v0)), (3, .inl v3), (4, .inl v4), (5, .inl v5)] → gT p l e R s m args below meth c E D H locs cells slots (some (.int q.1)) q.2 (F0 m 7 ls []) := by
  obtain ⟨hx, hb, hml, hown, hts, hKn, hRc, hRs, hc1, hc2, hRf, hRl, hr, hlk, hnm⟩ := id C
  intro n
  induction n with
  | zero =>
    intro v0 v3 v4 v5 G q h
    exact g_no h
  | succ n ih =>
    intro v0 v3 v4 v5 G q h H locs cells slots ls hS hl
    rw [fJ15_indexOfChar_b7] at h
    refine g_iload hx hb hl 3 rfl dJ15_indexOfChar_7 ?_
    refine g_iload_n hx hb hl 1 rfl dJ15_indexOfChar_9 ?_
    refine lv_icmp_ge (tgt := 31) hx hb dJ15_indexOfChar_10 (by decide) (fun c_10 => ?_) (fun c_10 => ?_)
    · have h := g_ift c_10 h
      refine lv_iconst (v := (-1)) hx hb dJ15_indexOfChar_31 (by decide) ?_
      exact g_iretG hx hb hr hlk hKn hRc hRs hS h dJ15_indexOfChar_32
    · have h := g_iff c_10 h
      refine g_aload_n hx hb hl 0 rfl dJ15_indexOfChar_13 ?_
      refine g_iload hx hb hl 3 rfl dJ15_indexOfChar_14 ?_
      refine g_baloadG hx hb hKn hS h dJ15_indexOfChar_16 (fun x16 h => ?_)
      refine g_iload hx hb hl 2 rfl dJ15_indexOfChar_17 ?_
      refine lv_icmp_ne (tgt := 25) hx hb dJ15_indexOfChar_19 (by decide) (fun c_19 => ?_) (fun c_19 => ?_)
      · have h := g_ift c_19 h
        refine g_iinc (l1 := [(5, .inl (v5 + 1)), (0, .inr (.inr v0)), (3, .inl v3), (4, .inl v4)]) (v := (v5 + 1)) hx hb hl (k := 3) rfl (by rfl) (by decide) rfl dJ15_indexOfChar_25 (fun ls hl => ?_)
        refine lv_goto (tgt := 7) hx hb dJ15_indexOfChar_28 (by decide) ?_
        exact ih _ _ _ _ _ _ h _ _ _ _ _ hS (gls_sub hl [1, 2, 3, 0] rfl)
      · have h := g_iff (fun z => z c_19) h
        refine g_iload hx hb hl 3 rfl dJ15_indexOfChar_22 ?_
        exact g_iretG hx hb hr hlk hKn hRc hRs hS h dJ15_indexOfChar_24
theorem sJ15_indexOfChar (l : Launch) (E : g_E) (D : g_D) {v0 : Option Nat} {v1 : Int32} {v2 : Int32} {v3 : Int32} {G : g_G} {q : Int32 × g_G} (h : fJ15_indexOfChar E v0 v1 v2 v3 G = some q) : gMet l E D yJ15_indexOfChar (ws_ yJ15_indexOfChar cJ15_indexOfChar 6 (some .int)) 1 64 [.inr (.inr v0), .inl v1, .inl v2, .inl v3] G (some (.int q.1)) q.2 := by
  refine gMet.of (by decide +kernel) (Nat.le_of_ble_eq_true rfl) ?_
  intro p e R s m args below meth c C hS ls hl
  have C : gC p R s m args meth c cJ15_indexOfChar 6 RJ15 "indexOfChar" (some .int) 1 64 E D := C
  obtain ⟨hx, hb, hml, hown, hts, hKn, hRc, hRs, hc1, hc2, hRf, hRl, hr, hlk, hnm⟩ := id C
  have hl : gls ls 6 [(0, .inr (.inr v0)), (1, .inl v1), (2, .inl v2), (3, .inl v3)] := hl
  generalize s.heap = H at hS ⊢
  unfold fJ15_indexOfChar at h
  refine g_iload_n hx hb hl 1 rfl dJ15_indexOfChar_0 ?_
  refine lv_i2b (v := (Int8.toInt32 (Int32.toInt8 v1))) hx hb dJ15_indexOfChar_1 rfl ?_
  refine g_istore (l1 := [(4, .inl (Int8.toInt32 (Int32.toInt8 v1))), (0, .inr (.inr v0)), (1, .inl v1), (2, .inl v2), (3, .inl v3)]) hx hb hl (by decide) rfl dJ15_indexOfChar_2 (fun ls hl => ?_)
  refine g_iload_n hx hb hl 3 rfl dJ15_indexOfChar_4 ?_
  refine g_istore (l1 := [(5, .inl v2), (4, .inl (Int8.toInt32 (Int32.toInt8 v1))), (0, .inr (.inr v0)), (1, .inl v1), (2, .inl v2), (3, .inl v3)]) hx hb hl (by decide) rfl dJ15_indexOfChar_5 (fun ls hl => ?_)
  exact sJ15_indexOfChar_b7 C gFU _ _ _ _ _ _ h _ _ _ _ _ hS (gls_sub hl [2, 5, 1, 0] rfl)
/-- java/lang/StringLatin1.toBytes(C)[B -/
def fJ15_toBytes (E : g_E) (v0 : Int32) (G : g_G) : Option (Option Nat × g_G) :=
  (gnewA E G 101 1).bind fun z1 =>
  (gsaB E z1.2 (some z1.1) 0 (Int8.toInt32 (Int32.toInt8 v0))).bind fun G7 =>
  some ((some z1.1), G7)
theorem sJ15_toBytes (l : Launch) (E : g_E) (D : g_D) {v0 : Int32} {G : g_G} {q : Option Nat × g_G} (h : fJ15_toBytes E v0 G = some q) : gMet l E D yJ15_toBytes (ws_ yJ15_toBytes cJ15_toBytes 1 (some (.array .byte))) 1 64 [.inl v0] G (some (va_rf q.1)) q.2 := by
  refine gMet.of (by decide +kernel) (Nat.le_of_ble_eq_true rfl) ?_
  intro p e R s m args below meth c C hS ls hl
  have C : gC p R s m args meth c cJ15_toBytes 1 RJ15 "toBytes" (some (.array .byte)) 1 64 E D := C
  obtain ⟨hx, hb, hml, hown, hts, hKn, hRc, hRs, hc1, hc2, hRf, hRl, hr, hlk, hnm⟩ := id C
  have hl : gls ls 1 [(0, .inl v0)] := hl
  generalize s.heap = H at hS ⊢
  unfold fJ15_toBytes at h
  refine lv_iconst (v := 1) hx hb dJ15_toBytes_0 (by decide) ?_
  refine g_newaG (k := 101) (atype := .byte) hx hb hKn hRc hRs hS h (by decide) rfl (hts _ q258) dJ15_toBytes_1 (fun z1 h H locs cells slots hS => ?_)
  refine lv_dup hx hb dJ15_toBytes_3 (by first | exact va_rf_cat _ | rfl | exact g_catA _) ?_
  refine lv_iconst (v := 0) hx hb dJ15_toBytes_4 (by decide) ?_
  refine g_iload_n hx hb hl 0 rfl dJ15_toBytes_5 ?_
  refine lv_i2b (v := (Int8.toInt32 (Int32.toInt8 v0))) hx hb dJ15_toBytes_6 rfl ?_
  refine g_bastoreG hx hb hKn hS h dJ15_toBytes_7 (fun G7 h H locs hS => ?_)
  exact g_aretG hx hb hr (by first | exact Or.inl ⟨_, rfl⟩ | exact Or.inr ⟨_, rfl⟩) hlk hKn hRc hRs hS h dJ15_toBytes_8
