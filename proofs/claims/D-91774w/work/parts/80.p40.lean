/-! THE PLAIN LAW, 40: moves of the model, with its clocks -/
set_option maxRecDepth 100000
def zclkM (K : zKt) (h : Nat) (to : Int32) : zKt := (va_up K.1 h (K.1 h + (if 0 < to - K.1 h then to - K.1 h else 0)), va_up K.2.1 h (K.2.1 h + (if 0 < to - K.1 h then to - K.1 h else 0)), K.2.2)
def ztgfM (v : Int32) : Nat → zKt → zKt
  | 0, K => K
  | h + 1, K => zinc (zclkM (ztgfM v h K) h v) h 1
def zovM (K : zKt) (h t : Nat) : zKt := zclkM (zclkM K h (if K.1 h < K.1 t then K.1 t else K.1 h)) t (if K.1 h < K.1 t then K.1 t else K.1 h)
def zovKM (nr wd : Int32) (h t : Nat) (K : zKt) : zKt := (va_up (va_up (zovM K h t).1 h ((zovM K h t).1 h + (1 + zfar nr wd h t))) t ((zovM K h t).1 h + (1 + zfar nr wd h t)), (zovM K h t).2)
def ztkKM (S : zS) (h f k : Nat) (K : zKt) (T : Nat → Int32) : zKt := if wbg (sw S k) = true then zdon (zinc (zclkM K h (T k)) h 1) f h else zinc (zclkM K h (T k)) h 1
def zKm (G : g_G) (m : Nat) (K : zKt) : Prop := ∀ h, h < 8 → gI G (m + 17) h = K.1 h ∧ gI G (m + 18) h = K.2.1 h ∧ gI G (m + 19) h = K.2.2 h
def zFk (m a : Nat) : Prop := a = m + 17 ∨ a = m + 18 ∨ a = m + 19
section Z40
variable {P : zPr} {E : g_E} {G : g_G} {m w n r : Nat} {S : zS} {o : Nat → Bool} {K : zKt} {T : Nat → Int32}
theorem zKm.fr {G1 : g_G} {X : Nat → Prop} (h : zKm G m K) (f : zFr X G G1) (h17 : ¬ X (m + 17)) (h18 : ¬ X (m + 18)) (h19 : ¬ X (m + 19)) : zKm G1 m K := fun j hj => by
  rw [f.I h17, f.I h18, f.I h19]
  exact h j hj
theorem zKm.inc {h : Nat} {v : Int32} (q : zKm G m K) : zKm (gsI G (m + 17) h (K.1 h + v)) m (zinc K h v) := fun j hj => by
  obtain ⟨q1, q2, q3⟩ := q j hj
  refine ⟨?_, by rw [zq_II, if_neg (by omega)]; exact q2, by rw [zq_II, if_neg (by omega)]; exact q3⟩
  rw [zq_II]
  show _ = if j = h then K.1 h + v else K.1 j
  by_cases c : j = h
  · rw [if_pos ⟨rfl, c⟩, if_pos c]
  · rw [if_neg (fun q => c q.2), if_neg c, q1]
theorem zKm.don {f h : Nat} (q : zKm G m K) : zKm (gsI G (m + 19) f (if K.2.2 f < K.1 h then K.1 h else K.2.2 f)) m (zdon K f h) := fun j hj => by
  obtain ⟨q1, q2, q3⟩ := q j hj
  refine ⟨by rw [zq_II, if_neg (by omega)]; exact q1, by rw [zq_II, if_neg (by omega)]; exact q2, ?_⟩
  rw [zq_II]
  show _ = if j = f then (if K.2.2 f < K.1 h then K.1 h else K.2.2 f) else K.2.2 j
  by_cases c : j = f
  · rw [if_pos ⟨rfl, c⟩, if_pos c]
  · rw [if_neg (fun q => c q.2), if_neg c, q3]
theorem zm_upTo {h : Nat} {to : Int32} (hM : zMS G m) (hB : gB E ≤ m) (hh : h < 8) (q : zKm G m K) : ∃ G1, fX4_upTo E m (Int32.ofNat h) to G = some G1 ∧ zFr (zFk m) G G1 ∧ zKm G1 m (zclkM K h to) := by
  obtain ⟨q1, q2, q3⟩ := q h hh
  have e17 : ∀ v, gI (gsI G (m + 18) h v) (m + 17) h = K.1 h := fun v => by rw [zq_II, if_neg (by omega), q1]
  have hM1 : ∀ v, zMS (gsI G (m + 18) h v) m := fun v => by rw [zMS_I]; exact hM
  simp only [fX4_upTo, ↓zm_rI, ↓zm_chk, ↓zm_r0, ↓zm_r1, ↓zm_r9, ↓zm_r22, ↓zm_r23, ↓zm_r24, ↓zm_r25, ↓zm_r26, ↓zm_r27, ↓zm_r28, ↓zm_r29, ↓zm_r30, ↓zm_r31, ↓zm_r32, ↓zm_r33, ↓zm_r34, ↓zm_r36, ↓zm_r37, ↓zm_r38, ↓zm_r39, ↓zm_r43, ↓zm_r44, ↓zm_r45, ↓zm_r49, ↓zm_r50, ↓zm_r54, ↓zm_r55, ↓zm_r61, ↓zm_r62, ↓zm_r63, ↓zm_r64, ↓zm_r65, ↓zm_r66, ↓zm_r67, ↓zm_r69, ↓zm_a1, ↓zm_a2, ↓zm_a3, ↓zm_a4, ↓zm_a5, ↓zm_a6, ↓zm_a7, ↓zm_a8, ↓zm_a9, ↓zm_a10, ↓zm_a11, ↓zm_a12, ↓zm_a13, ↓zm_a14, ↓zm_a15, ↓zm_a16, ↓zm_a17, ↓zm_a18, ↓zm_a19, ↓zm_a20, ↓zm_a21, ↓zm_a22, ↓zm_a23, ↓zm_a24, ↓zm_a25, ↓zm_a26, ↓zm_a27, ↓zm_a28, ↓zm_a29, ↓zm_a30, ↓zm_a31, ↓zm_a32, ↓zm_a33, ↓zm_a34, ↓zm_a35, zMS_I, ↓zm_pI, ↓zm_pZ, ↓zm_s3, ↓zm_s4, ↓zm_s5, ↓zm_s6, ↓zm_s7, ↓zm_s8, ↓zm_s9, ↓zm_s10, ↓zm_s11, ↓zm_s12, ↓zm_s13, ↓zm_s14, ↓zm_s15, ↓zm_s16, ↓zm_s17, ↓zm_s18, ↓zm_s19, ↓zm_s20, ↓zm_s21, ↓zm_s22, ↓zm_s23, ↓zm_s24, ↓zm_s25, ↓zm_s26, ↓zm_s27, ↓zm_s28, ↓zm_s29, ↓zm_s30, ↓zm_s31, ↓zm_s32, ↓zm_s33, ↓zm_s34, ↓zm_s35, hM, hB, hh, q1, q2, hM1, e17]
  refine ⟨_, rfl, (zFr.wI (Or.inr (Or.inl rfl))).wI2 (Or.inl rfl), fun j hj => ?_⟩
  obtain ⟨w1, w2, w3⟩ := q j hj
  refine ⟨?_, ?_, by rw [zq_II, if_neg (by omega), zq_II, if_neg (by omega)]; exact w3⟩
  · rw [zq_II]
    show _ = if j = h then _ else K.1 j
    by_cases d : j = h
    · rw [if_pos ⟨rfl, d⟩, if_pos d]
    · rw [if_neg (fun q => d q.2), if_neg d, zq_II, if_neg (by omega), w1]
  · rw [zq_II, if_neg (by omega), zq_II]
    show _ = if j = h then _ else K.2.1 j
    by_cases d : j = h
    · rw [if_pos ⟨rfl, d⟩, if_pos d]
    · rw [if_neg (fun q => d q.2), if_neg d, w2]
theorem zFk.hT {G1 : g_G} (hT : zMt P E G m n o) (f : zFr (zFk m) G G1) : zMt P E G1 m n o := hT.fr f (fun a ha => by unfold zFk at ha; omega)
theorem zFw.hT {G1 : g_G} (hT : zMt P E G m n o) (f : zFr (zFw m) G G1) : zMt P E G1 m n o := hT.fr f (fun a ha => by unfold zFw at ha; omega)
/-- who takes a word has it -/
theorem zm_has {h len : Nat} {f v : Int32} (hT : zMt P E G m n o) (hL : zML P G (m + 15) n S) (hh : h < n) (ha : hat (sh S h) < zN P) (hs : hst (sh S h) = false) (hl : len ≤ 99) :
    ∃ G1, fX4_has E m (Int32.ofNat h) f v (Int32.ofNat len) G = some G1 ∧ zFr (zFw m) G G1 ∧ zML P G1 (m + 15) n (zgets P o n S h f v len) := by
  have hM := hT.1
  have hB := hT.2.2.1
  have hn := hT.2.2.2.1
  have hP := hT.2.1.1
  have hN := hP.1
  obtain ⟨p1, p2, p3, p4, p5⟩ := hP.2 _ ha
  have hs80 : hat (sh S h) < 80 := by omega
  obtain ⟨ks, vs, ms⟩ := hT.2.1.2.2.1 _ ha
  have o0 := zat_own (E := E) hM hL hh
  rw [zat_s ha] at o0
  have r1 := hL.vr (k := zvr P (hat (sh S h))) (v := v) hh p2
  have r2 := r1.fm (v := f) hh
  rw [zup_h, zup_up] at r2
  have p1' : fX4_put E m (Int32.ofNat h) (2 + Int32.ofNat (zvr P (hat (sh S h)))) v G = some (gsI G (m + 15) (8 * h + (2 + zvr P (hat (sh S h)))) v) := by
    have : (2 : Int32) + Int32.ofNat (zvr P (hat (sh S h))) = Int32.ofNat (2 + zvr P (hat (sh S h))) := zi_add 2 _
    rw [this]
    exact zm_put hM hB (by omega)
  have hM1 : zMS (gsI G (m + 15) (8 * h + (2 + zvr P (hat (sh S h)))) v) m := by rw [zMS_I]; exact hM
  have p2' : fX4_put E m (Int32.ofNat h) 6 f (gsI G (m + 15) (8 * h + (2 + zvr P (hat (sh S h)))) v) = some (gsI (gsI G (m + 15) (8 * h + (2 + zvr P (hat (sh S h)))) v) (m + 15) (8 * h + 6) f) := zm_put hM1 hB (k := 6) (by omega)
  generalize hG2 : gsI (gsI G (m + 15) (8 * h + (2 + zvr P (hat (sh S h)))) v) (m + 15) (8 * h + 6) f = G2 at r2 p2'
  have f2 : zFr (zFw m) G G2 := by
    subst hG2
    exact (zFr.wI (Or.inl rfl)).wI2 (Or.inl rfl)
  have hT2 := zFw.hT hT f2
  have hM2 := hT2.1
  have ms2 := (hT2.2.1.2.2.1 _ ha).2.2
  have start : fX4_has E m (Int32.ofNat h) f v (Int32.ofNat len) G = if Int32.ofNat len ≤ Int32.ofNat (zms P (hat (sh S h))) then (fX4_goOn E m (Int32.ofNat h) G2).bind (fun z55 => some z55) else (fX4_put E m (Int32.ofNat h) 1 1 G2).bind (fun z47 => some z47) := by
    simp only [fX4_has, ↓zm_rI, ↓zm_chk, ↓zm_r0, ↓zm_r1, ↓zm_r9, ↓zm_r22, ↓zm_r23, ↓zm_r24, ↓zm_r25, ↓zm_r26, ↓zm_r27, ↓zm_r28, ↓zm_r29, ↓zm_r30, ↓zm_r31, ↓zm_r32, ↓zm_r33, ↓zm_r34, ↓zm_r36, ↓zm_r37, ↓zm_r38, ↓zm_r39, ↓zm_r43, ↓zm_r44, ↓zm_r45, ↓zm_r49, ↓zm_r50, ↓zm_r54, ↓zm_r55, ↓zm_r61, ↓zm_r62, ↓zm_r63, ↓zm_r64, ↓zm_r65, ↓zm_r66, ↓zm_r67, ↓zm_r69, ↓zm_a1, ↓zm_a2, ↓zm_a3, ↓zm_a4, ↓zm_a5, ↓zm_a6, ↓zm_a7, ↓zm_a8, ↓zm_a9, ↓zm_a10, ↓zm_a11, ↓zm_a12, ↓zm_a13, ↓zm_a14, ↓zm_a15, ↓zm_a16, ↓zm_a17, ↓zm_a18, ↓zm_a19, ↓zm_a20, ↓zm_a21, ↓zm_a22, ↓zm_a23, ↓zm_a24, ↓zm_a25, ↓zm_a26, ↓zm_a27, ↓zm_a28, ↓zm_a29, ↓zm_a30, ↓zm_a31, ↓zm_a32, ↓zm_a33, ↓zm_a34, ↓zm_a35, zMS_I, hM, o0, Option.bind_some, hs80, vs, p1', hM1, p2', hM2, ms2]
  rw [start]
  have r2' : zML P G2 (m + 15) n (zupH S h (zput P (sh S h) v f)) := r2
  have ehat : hat (sh (zupH S h (zput P (sh S h) v f)) h) = hat (sh S h) := by rw [zup_h]; rfl
  have ehst : hst (sh (zupH S h (zput P (sh S h) v f)) h) = false := by rw [zup_h]; exact hs
  unfold zgets zgetH
  by_cases c : zms P (hat (sh S h)) < len
  · rw [if_neg (zi_nle c (by omega)), if_pos c]
    have p3' : fX4_put E m (Int32.ofNat h) 1 1 G2 = some (gsI G2 (m + 15) (8 * h + 1) 1) := zm_put hM2 hB (k := 1) (by omega)
    have r3 := r2.st (b := true) hh
    rw [zup_h, zup_up] at r3
    exact ⟨_, by rw [p3']; rfl, f2.wI2 (Or.inl rfl), r3⟩
  · rw [if_pos (zi_le (by omega) (by omega)), if_neg c]
    obtain ⟨G3, g1, g2, g3⟩ := zm_goOn (E := E) hh hT2 r2' (by rw [ehat]; exact ha) ehst
    unfold zgoOn at g3
    rw [ehat, zup_h, zup_up] at g3
    exact ⟨G3, by rw [g1]; rfl, f2.trans g2, g3⟩
theorem zm_take {h f k : Nat} (hT : zMt P E G m n o) (hL : zML P G (m + 15) n S) (q : zKm G m K) (hTh : ∀ j, j < sm S → gI G (m + 20) j = T j) (hh : h < n) (hf : f < 8) (ha : hat (sh S h) < zN P) (hs : hst (sh S h) = false) (hw : zfnd S f h (zmk P n S h) = some k) :
    ∃ G1, fX4_take E m (Int32.ofNat h) (Int32.ofNat f) (Int32.ofNat k) G = some G1 ∧ zFr (fun a => m + 15 ≤ a ∧ a ≤ m + 20) G G1 ∧ zML P G1 (m + 15) n (ztake P o n S h f) ∧ zKm G1 m (ztkKM S h f k K T) ∧ ∀ j, j < sm S - 1 → gI G1 (m + 20) j = zdel T k j := by
  have hM := hT.1
  have hB := hT.2.2.1
  have hn := hT.2.2.2.1
  have h8 : h < 8 := by omega
  have hm := hL.2.1
  obtain ⟨hk1, hk2, hk3⟩ := zfnd_lt hw
  have k3 : k < 320 := by omega
  have k321 : k < 321 := by omega
  obtain ⟨w1, w2, w3, w4, w5, w6, w7, w8⟩ := hL.wd hk1
  have e3 : ∀ (α : Type) (K : Int32 → Option α), (gaI G 100 (some (m + 15)) (65 + 6 * Int32.ofNat k + 3)).bind K = K (gI G (m + 15) (65 + 6 * k + 3)) := fun α K => zm_wd (i := 3) hM k3 (by omega)
  have e4 : ∀ (α : Type) (K : Int32 → Option α), (gaI G 100 (some (m + 15)) (65 + 6 * Int32.ofNat k + 4)).bind K = K (gI G (m + 15) (65 + 6 * k + 4)) := fun α K => zm_wd (i := 4) hM k3 (by omega)
  have e5 : ∀ (α : Type) (K : Int32 → Option α), (gaI G 100 (some (m + 15)) (65 + 6 * Int32.ofNat k + 5)).bind K = K (gI G (m + 15) (65 + 6 * k + 5)) := fun α K => zm_wd (i := 5) hM k3 (by omega)
  obtain ⟨A1, a1, a2, a3⟩ := zm_upTo (E := E) (to := T k) hM hB h8 q
  have hT1 := zFk.hT hT a2
  have hM1 := hT1.1
  have c1 := (a3 h h8).1
  have b3 := a3.inc (h := h) (v := 1)
  generalize hK1 : zinc (zclkM K h (T k)) h 1 = K1 at b3
  generalize hA2 : gsI A1 (m + 17) h ((zclkM K h (T k)).1 h + 1) = A2 at b3
  have f2 : zFr (zFk m) G A2 := by
    subst hA2
    exact a2.wI2 (Or.inl rfl)
  have hT2 := zFk.hT hT f2
  have hM2 := hT2.1
  have rest : ∀ (A3 : g_G) (K3 : zKt), zFr (zFk m) G A3 → zKm A3 m K3 → ∃ G1, fX4_take_b95 E m (Int32.ofNat h) (Int32.ofNat f) (Int32.ofNat k) (wvl (sw S k)) (Int32.ofNat (wln (sw S k))) A3 = some G1 ∧ zFr (fun a => m + 15 ≤ a ∧ a ≤ m + 20) G G1 ∧ zML P G1 (m + 15) n (ztake P o n S h f) ∧ zKm G1 m K3 ∧ ∀ j, j < sm S - 1 → gI G1 (m + 20) j = zdel T k j := fun A3 K3 f3 q3 => by
    have hT3 := zFk.hT hT f3
    have hL3 : zML P A3 (m + 15) n S := hL.fr f3 (by unfold zFk; omega)
    obtain ⟨A4, g1, g2, g3, g4⟩ := zm_takeAway (E := E) hT3 hL3 hk1
    have hT4 : zMt P E A4 m n o := hT3.fr g2 (fun a ha => by unfold zFm at ha; omega)
    obtain ⟨A5, i1, i2, i3⟩ := zm_has (E := E) (f := Int32.ofNat f) (v := wvl (sw S k)) (len := wln (sw S k)) hT4 g3 hh ha hs w2.2
    refine ⟨A5, ?_, (f3.mono fun a q => by unfold zFk at q; omega).trans ((g2.mono fun a q => by unfold zFm at q; omega).trans (i2.mono fun a q => by unfold zFw at q; omega)), ?_, (q3.fr g2 (by unfold zFm; omega) (by unfold zFm; omega) (by unfold zFm; omega)).fr i2 (by unfold zFw; omega) (by unfold zFw; omega) (by unfold zFw; omega), fun j hj => ?_⟩
    · simp only [fX4_take_b95, zm_chk hT3.1, g1, Option.bind_some, zm_chk hT4.1, i1]
    · unfold ztake
      rw [hw]
      exact i3
    · rw [i2.I (by unfold zFw; omega), g4 j hj, f3.I (by unfold zFk; omega), zdel_at, zdel_at]
      exact hTh _ (by split <;> omega)
  have b46 : ∀ fl : Int32, fl = zb (wbg (sw S k)) → ∃ G1, fX4_take_b46 E m (Int32.ofNat h) (Int32.ofNat f) (Int32.ofNat k) (wvl (sw S k)) (Int32.ofNat (wln (sw S k))) fl G = some G1 ∧ zFr (fun a => m + 15 ≤ a ∧ a ≤ m + 20) G G1 ∧ zML P G1 (m + 15) n (ztake P o n S h f) ∧ zKm G1 m (ztkKM S h f k K T) ∧ ∀ j, j < sm S - 1 → gI G1 (m + 20) j = zdel T k j := fun fl hfl => by
    subst hfl
    have e7 := (b3 f hf).2.2
    have e5' := (b3 h h8).1
    simp only [fX4_take_b46, ↓zm_rI, ↓zm_chk, ↓zm_r0, ↓zm_r1, ↓zm_r9, ↓zm_r22, ↓zm_r23, ↓zm_r24, ↓zm_r25, ↓zm_r26, ↓zm_r27, ↓zm_r28, ↓zm_r29, ↓zm_r30, ↓zm_r31, ↓zm_r32, ↓zm_r33, ↓zm_r34, ↓zm_r36, ↓zm_r37, ↓zm_r38, ↓zm_r39, ↓zm_r43, ↓zm_r44, ↓zm_r45, ↓zm_r49, ↓zm_r50, ↓zm_r54, ↓zm_r55, ↓zm_r61, ↓zm_r62, ↓zm_r63, ↓zm_r64, ↓zm_r65, ↓zm_r66, ↓zm_r67, ↓zm_r69, ↓zm_a1, ↓zm_a2, ↓zm_a3, ↓zm_a4, ↓zm_a5, ↓zm_a6, ↓zm_a7, ↓zm_a8, ↓zm_a9, ↓zm_a10, ↓zm_a11, ↓zm_a12, ↓zm_a13, ↓zm_a14, ↓zm_a15, ↓zm_a16, ↓zm_a17, ↓zm_a18, ↓zm_a19, ↓zm_a20, ↓zm_a21, ↓zm_a22, ↓zm_a23, ↓zm_a24, ↓zm_a25, ↓zm_a26, ↓zm_a27, ↓zm_a28, ↓zm_a29, ↓zm_a30, ↓zm_a31, ↓zm_a32, ↓zm_a33, ↓zm_a34, ↓zm_a35, zMS_I, hM, k321, hTh k hk1, a1, Option.bind_some]
    simp only [↓zm_rI, ↓zm_chk, ↓zm_r0, ↓zm_r1, ↓zm_r9, ↓zm_r22, ↓zm_r23, ↓zm_r24, ↓zm_r25, ↓zm_r26, ↓zm_r27, ↓zm_r28, ↓zm_r29, ↓zm_r30, ↓zm_r31, ↓zm_r32, ↓zm_r33, ↓zm_r34, ↓zm_r36, ↓zm_r37, ↓zm_r38, ↓zm_r39, ↓zm_r43, ↓zm_r44, ↓zm_r45, ↓zm_r49, ↓zm_r50, ↓zm_r54, ↓zm_r55, ↓zm_r61, ↓zm_r62, ↓zm_r63, ↓zm_r64, ↓zm_r65, ↓zm_r66, ↓zm_r67, ↓zm_r69, ↓zm_a1, ↓zm_a2, ↓zm_a3, ↓zm_a4, ↓zm_a5, ↓zm_a6, ↓zm_a7, ↓zm_a8, ↓zm_a9, ↓zm_a10, ↓zm_a11, ↓zm_a12, ↓zm_a13, ↓zm_a14, ↓zm_a15, ↓zm_a16, ↓zm_a17, ↓zm_a18, ↓zm_a19, ↓zm_a20, ↓zm_a21, ↓zm_a22, ↓zm_a23, ↓zm_a24, ↓zm_a25, ↓zm_a26, ↓zm_a27, ↓zm_a28, ↓zm_a29, ↓zm_a30, ↓zm_a31, ↓zm_a32, ↓zm_a33, ↓zm_a34, ↓zm_a35, zMS_I, ↓zm_pI, ↓zm_pZ, ↓zm_s3, ↓zm_s4, ↓zm_s5, ↓zm_s6, ↓zm_s7, ↓zm_s8, ↓zm_s9, ↓zm_s10, ↓zm_s11, ↓zm_s12, ↓zm_s13, ↓zm_s14, ↓zm_s15, ↓zm_s16, ↓zm_s17, ↓zm_s18, ↓zm_s19, ↓zm_s20, ↓zm_s21, ↓zm_s22, ↓zm_s23, ↓zm_s24, ↓zm_s25, ↓zm_s26, ↓zm_s27, ↓zm_s28, ↓zm_s29, ↓zm_s30, ↓zm_s31, ↓zm_s32, ↓zm_s33, ↓zm_s34, ↓zm_s35, hM1, hB, h8, c1, hA2, zb_0, hM2, hf, e7, e5']
    unfold ztkKM
    cases c : wbg (sw S k)
    · rw [if_pos rfl, if_neg (by decide), hK1]
      exact rest A2 K1 f2 b3
    · rw [if_neg (by decide), if_pos rfl, hK1]
      exact rest _ _ (f2.wI2 (Or.inr (Or.inr rfl))) b3.don
  simp only [fX4_take, fX4_wordAt, Option.bind_some, ↓zm_rI, ↓zm_chk, ↓zm_r0, ↓zm_r1, ↓zm_r9, ↓zm_r22, ↓zm_r23, ↓zm_r24, ↓zm_r25, ↓zm_r26, ↓zm_r27, ↓zm_r28, ↓zm_r29, ↓zm_r30, ↓zm_r31, ↓zm_r32, ↓zm_r33, ↓zm_r34, ↓zm_r36, ↓zm_r37, ↓zm_r38, ↓zm_r39, ↓zm_r43, ↓zm_r44, ↓zm_r45, ↓zm_r49, ↓zm_r50, ↓zm_r54, ↓zm_r55, ↓zm_r61, ↓zm_r62, ↓zm_r63, ↓zm_r64, ↓zm_r65, ↓zm_r66, ↓zm_r67, ↓zm_r69, ↓zm_a1, ↓zm_a2, ↓zm_a3, ↓zm_a4, ↓zm_a5, ↓zm_a6, ↓zm_a7, ↓zm_a8, ↓zm_a9, ↓zm_a10, ↓zm_a11, ↓zm_a12, ↓zm_a13, ↓zm_a14, ↓zm_a15, ↓zm_a16, ↓zm_a17, ↓zm_a18, ↓zm_a19, ↓zm_a20, ↓zm_a21, ↓zm_a22, ↓zm_a23, ↓zm_a24, ↓zm_a25, ↓zm_a26, ↓zm_a27, ↓zm_a28, ↓zm_a29, ↓zm_a30, ↓zm_a31, ↓zm_a32, ↓zm_a33, ↓zm_a34, ↓zm_a35, zMS_I, hM, e3, e4, e5, w6, w7, w8, zb_1]
  cases c : wbg (sw S k)
  · rw [if_pos (by decide)]
    exact b46 0 (by rw [c]; rfl)
  · rw [if_neg (by decide)]
    exact b46 1 (by rw [c]; rfl)
end Z40
