/-! THE PLAIN LAW, 36: whether a hand has a move, in the model -/
set_option maxRecDepth 100000
section Z36
variable {P : zPr} {E : g_E} {G : g_G} {m w n r : Nat} {S : zS} {o : Nat → Bool} {nc : Option Nat}
theorem zFs.hT {G1 : g_G} (hT : zMt P E G m n o) (f : zFr (zFs m) G G1) : zMt P E G1 m n o := hT.fr f (fun a ha => by unfold zFs at ha; omega)
theorem zFs.hL {G1 : g_G} (hL : zML P G (m + 15) n S) (f : zFr (zFs m) G G1) : zML P G1 (m + 15) n S := hL.fr f (by unfold zFs; omega)
theorem zFs.x {G1 : g_G} (f : zFr (zFs m) G G1) : gI G1 m = gI G m := f.I (by unfold zFs; omega)
theorem znum_eq {c : Nat} (hc : c < 1000) (hnc : ∀ d, nc = some d → d < 1000) : (znum nc = Int32.ofNat c) = (nc = some c) := by
  cases nc with
  | none => exact propext ⟨fun q => absurd q.symm (zm1 c (by omega)), fun q => by cases q⟩
  | some d =>
    have := hnc d rfl
    show (Int32.ofNat d = Int32.ofNat c) = _
    rw [zi_eq (by omega) (by omega)]
    exact propext ⟨fun q => by rw [q], fun q => Option.some.inj q⟩
theorem znum_none (hnc : ∀ d, nc = some d → d < 1000) : (znum nc = -1) = (nc.isNone = true) := znum_n fun i hi => by have := hnc i hi; omega
theorem zm_hands {h : Nat} (hT : zMt P E G m n o) (hL : zML P G (m + 15) n S) (hI : zinv P n S) (hh : h < n) (ha : hat (sh S h) < zN P) (hs : hst (sh S h) = false) (hk : zK P S h ≤ 2) (h35 : gI G m 35 = znum nc) (hnc : ∀ d, nc = some d → d < 8) :
    ∃ G1, fX4_hands E m (Int32.ofNat h) G = some (zb (zhov P n S h && (if zK P S (zto P n S h) = 4 then (nc.isNone || decide (nc = some h)) else true)), G1) ∧ zFr (zFs m) G G1 := by
  have hn := hT.2.2.2.1
  have hP := hT.2.1.1
  have hM := hT.1
  obtain ⟨t1, t2, t3⟩ := hI.to hn hh ha hP.1 hs (by omega)
  obtain ⟨G1, a1, a2⟩ := zm_ask (E := E) (k := 0) hT hL hh ha (by omega) (Or.inl ⟨rfl, Or.inl (by unfold zK at hk; omega)⟩)
  rw [t1] at a1
  have hT1 := zFs.hT hT a2
  have hL1 := zFs.hL hL a2
  have hM1 := hT1.1
  obtain ⟨G2, b1, b2⟩ := zm_ask (E := E) (k := 1) hT1 hL1 hh ha (by omega) (Or.inr (Or.inl ⟨rfl, by unfold zK at hk; omega⟩))
  have hT2 := zFs.hT hT1 b2
  have hL2 := zFs.hL hL1 b2
  have hM2 := hT2.1
  have f2 := a2.trans b2
  have i3 := zm_isAt (E := E) (k := 3) hT2 hL2 t2 (by omega)
  have a1' : fX4_asked E m (Int32.ofNat h) 0 G = _ := a1
  have b1' : fX4_asked E m (Int32.ofNat h) 1 G1 = _ := b1
  have i3' : fX4_isAt E m (Int32.ofNat (zto P n S h)) 3 G2 = _ := i3
  have em : zev P n h (sh S h) (hat (sh S h)) 1 = zmk P n S h := rfl
  rw [em] at b1'
  -- the mark and the words
  have b63 : ∀ (G3 : g_G), zFr (zFs m) G2 G3 → (zK P S (zto P n S h) = 3 ∨ zK P S (zto P n S h) = 4) → hat (sh S (zto P n S h)) < zN P → ∃ G4, fX4_hands_b63 E m (Int32.ofNat h) (Int32.ofNat (zto P n S h)) (zmk P n S h) 1 G3 = some (zb (decide (zmk P n S (zto P n S h) = zmk P n S h) && (zfnd S h (zto P n S h) (zmk P n S h)).isNone), G4) ∧ zFr (zFs m) G G4 := fun G3 f3 hkt hat' => by
    have hT3 := zFs.hT hT2 f3
    have hL3 := zFs.hL hL2 f3
    have hM3 := hT3.1
    obtain ⟨G4, c1, c2⟩ := zm_ask (E := E) (k := 1) hT3 hL3 t2 hat' (by omega) (Or.inr (Or.inl ⟨rfl, by unfold zK at hkt; omega⟩))
    have c1' : fX4_asked E m (Int32.ofNat (zto P n S h)) 1 G3 = _ := c1
    have hT4 := zFs.hT hT3 c2
    have hL4 := zFs.hL hL3 c2
    have hM4 := hT4.1
    have em2 : zev P n (zto P n S h) (sh S (zto P n S h)) (hat (sh S (zto P n S h))) 1 = zmk P n S (zto P n S h) := rfl
    refine ⟨G4, ?_, (f2.trans f3).trans c2⟩
    rw [fX4_hands_b63, if_neg (by decide)]
    simp only [↓zm_rI, ↓zm_chk, ↓zm_r0, ↓zm_r1, ↓zm_r9, ↓zm_r22, ↓zm_r23, ↓zm_r24, ↓zm_r25, ↓zm_r26, ↓zm_r27, ↓zm_r28, ↓zm_r29, ↓zm_r30, ↓zm_r31, ↓zm_r32, ↓zm_r33, ↓zm_r34, ↓zm_r36, ↓zm_r37, ↓zm_r38, ↓zm_r39, ↓zm_r43, ↓zm_r44, ↓zm_r45, ↓zm_r49, ↓zm_r50, ↓zm_r54, ↓zm_r55, ↓zm_r61, ↓zm_r62, ↓zm_r63, ↓zm_r64, ↓zm_r65, ↓zm_r66, ↓zm_r67, ↓zm_r69, ↓zm_a1, ↓zm_a2, ↓zm_a3, ↓zm_a4, ↓zm_a5, ↓zm_a6, ↓zm_a7, ↓zm_a8, ↓zm_a9, ↓zm_a10, ↓zm_a11, ↓zm_a12, ↓zm_a13, ↓zm_a14, ↓zm_a15, ↓zm_a16, ↓zm_a17, ↓zm_a18, ↓zm_a19, ↓zm_a20, ↓zm_a21, ↓zm_a22, ↓zm_a23, ↓zm_a24, ↓zm_a25, ↓zm_a26, ↓zm_a27, ↓zm_a28, ↓zm_a29, ↓zm_a30, ↓zm_a31, ↓zm_a32, ↓zm_a33, ↓zm_a34, ↓zm_a35, zMS_I, hM3, c1', Option.bind_some, hM4, em2, zm_lying _ hT4 hL4 (show h < 8 by omega) (show zto P n S h < 8 by omega), zfnd_n hL.2.1, true_or, or_true, ↓reduceIte]
    by_cases q : zmk P n S (zto P n S h) = zmk P n S h
    · rw [if_neg (fun w => w q), decide_eq_true q]
      cases zfnd S h (zto P n S h) (zmk P n S h) <;> simp [zb]
    · rw [if_pos q, decide_eq_false q]
      rfl
  have b62 : ∀ (G3 : g_G), fX4_hands_b62 E m (Int32.ofNat h) (Int32.ofNat (zto P n S h)) (zmk P n S h) G3 = some (0, G3) := fun G3 => by
    rw [fX4_hands_b62, fX4_hands_b63, if_pos rfl, if_pos (Or.inl rfl)]
  -- at an any
  have b33 : ∀ (G3 : g_G), zFr (zFs m) G2 G3 → ∃ G4, fX4_hands_b33 E m (Int32.ofNat h) (Int32.ofNat (zto P n S h)) (zmk P n S h) G3 = some (zb (zisAt P (sh S (zto P n S h)) 4 && (nc.isNone || decide (nc = some h)) && (decide (zmk P n S (zto P n S h) = zmk P n S h) && (zfnd S h (zto P n S h) (zmk P n S h)).isNone)), G4) ∧ zFr (zFs m) G G4 := fun G3 f3 => by
    have hT3 := zFs.hT hT2 f3
    have hL3 := zFs.hL hL2 f3
    have hM3 := hT3.1
    have i4 := zm_isAt (E := E) (k := 4) hT3 hL3 t2 (by omega)
    have i4' : fX4_isAt E m (Int32.ofNat (zto P n S h)) 4 G3 = _ := i4
    have h35' : gI G3 m 35 = znum nc := by rw [zFs.x f3, zFs.x b2, zFs.x a2, h35]
    simp only [fX4_hands_b33, ↓zm_rI, ↓zm_chk, ↓zm_r0, ↓zm_r1, ↓zm_r9, ↓zm_r22, ↓zm_r23, ↓zm_r24, ↓zm_r25, ↓zm_r26, ↓zm_r27, ↓zm_r28, ↓zm_r29, ↓zm_r30, ↓zm_r31, ↓zm_r32, ↓zm_r33, ↓zm_r34, ↓zm_r36, ↓zm_r37, ↓zm_r38, ↓zm_r39, ↓zm_r43, ↓zm_r44, ↓zm_r45, ↓zm_r49, ↓zm_r50, ↓zm_r54, ↓zm_r55, ↓zm_r61, ↓zm_r62, ↓zm_r63, ↓zm_r64, ↓zm_r65, ↓zm_r66, ↓zm_r67, ↓zm_r69, ↓zm_a1, ↓zm_a2, ↓zm_a3, ↓zm_a4, ↓zm_a5, ↓zm_a6, ↓zm_a7, ↓zm_a8, ↓zm_a9, ↓zm_a10, ↓zm_a11, ↓zm_a12, ↓zm_a13, ↓zm_a14, ↓zm_a15, ↓zm_a16, ↓zm_a17, ↓zm_a18, ↓zm_a19, ↓zm_a20, ↓zm_a21, ↓zm_a22, ↓zm_a23, ↓zm_a24, ↓zm_a25, ↓zm_a26, ↓zm_a27, ↓zm_a28, ↓zm_a29, ↓zm_a30, ↓zm_a31, ↓zm_a32, ↓zm_a33, ↓zm_a34, ↓zm_a35, zMS_I, hM3, i4', Option.bind_some, h35', zb_0, znum_none (fun d hd => by have := hnc d hd; omega)]
    cases c4 : zisAt P (sh S (zto P n S h)) 4
    · rw [if_pos rfl, b62]
      exact ⟨G3, rfl, f2.trans f3⟩
    · obtain ⟨u1, u2, u3⟩ := zisAt_iff.1 c4
      obtain ⟨G4, v1, v2⟩ := b63 G3 f3 (Or.inr u3) u1
      have v1' : fX4_hands_b58 E m (Int32.ofNat h) (Int32.ofNat (zto P n S h)) (zmk P n S h) G3 = _ := v1
      rw [if_neg (by decide)]
      have eq2 := znum_eq (nc := nc) (c := h) (by omega) (fun d hd => by have := hnc d hd; omega)
      by_cases q : nc.isNone = true
      · rw [if_pos q, v1', q]
        exact ⟨G4, by simp, v2⟩
      · rw [if_neg q]
        have q' : nc.isNone = false := (Bool.not_eq_true _).mp q
        by_cases q2 : nc = some h
        · rw [if_neg (by rw [eq2]; exact fun w => w q2), v1', decide_eq_true q2]
          exact ⟨G4, by simp, v2⟩
        · rw [if_pos (by rw [eq2]; exact q2), b62, q', decide_eq_false q2]
          exact ⟨G3, by simp [zb], f2.trans f3⟩
  simp only [fX4_hands, ↓zm_rI, ↓zm_chk, ↓zm_r0, ↓zm_r1, ↓zm_r9, ↓zm_r22, ↓zm_r23, ↓zm_r24, ↓zm_r25, ↓zm_r26, ↓zm_r27, ↓zm_r28, ↓zm_r29, ↓zm_r30, ↓zm_r31, ↓zm_r32, ↓zm_r33, ↓zm_r34, ↓zm_r36, ↓zm_r37, ↓zm_r38, ↓zm_r39, ↓zm_r43, ↓zm_r44, ↓zm_r45, ↓zm_r49, ↓zm_r50, ↓zm_r54, ↓zm_r55, ↓zm_r61, ↓zm_r62, ↓zm_r63, ↓zm_r64, ↓zm_r65, ↓zm_r66, ↓zm_r67, ↓zm_r69, ↓zm_a1, ↓zm_a2, ↓zm_a3, ↓zm_a4, ↓zm_a5, ↓zm_a6, ↓zm_a7, ↓zm_a8, ↓zm_a9, ↓zm_a10, ↓zm_a11, ↓zm_a12, ↓zm_a13, ↓zm_a14, ↓zm_a15, ↓zm_a16, ↓zm_a17, ↓zm_a18, ↓zm_a19, ↓zm_a20, ↓zm_a21, ↓zm_a22, ↓zm_a23, ↓zm_a24, ↓zm_a25, ↓zm_a26, ↓zm_a27, ↓zm_a28, ↓zm_a29, ↓zm_a30, ↓zm_a31, ↓zm_a32, ↓zm_a33, ↓zm_a34, ↓zm_a35, zMS_I, hM, a1', Option.bind_some, hM1, b1', hM2, i3', zb_0]
  unfold zhov
  cases c3 : zisAt P (sh S (zto P n S h)) 3
  · rw [if_pos rfl]
    obtain ⟨G4, v1, v2⟩ := b33 G2 (zFr.refl _ _)
    refine ⟨G4, ?_, v2⟩
    rw [v1]
    cases c4 : zisAt P (sh S (zto P n S h)) 4
    · simp
    · obtain ⟨u1, u2, u3⟩ := zisAt_iff.1 c4
      have u3 : zK P S (zto P n S h) = 4 := u3
      rw [if_pos u3]
      cases (nc.isNone || decide (nc = some h)) <;> simp
  · obtain ⟨u1, u2, u3⟩ := zisAt_iff.1 c3
    have u3 : zK P S (zto P n S h) = 3 := u3
    have c4 : zisAt P (sh S (zto P n S h)) 4 = false := by
      rw [← Bool.not_eq_true, zisAt_iff]
      unfold zK at u3
      omega
    rw [if_neg (by decide)]
    obtain ⟨G3, c1, c2⟩ := zm_ask (E := E) (k := 0) hT2 hL2 t2 u1 (by omega) (Or.inl ⟨rfl, Or.inl (by unfold zK at u3; omega)⟩)
    obtain ⟨t4, t5, t6⟩ := hI.to hn t2 u1 hP.1 u2 (by omega)
    rw [t4] at c1
    have c1' : fX4_asked E m (Int32.ofNat (zto P n S h)) 0 G2 = _ := c1
    rw [c1', Option.bind_some]
    simp only [zi_eq (show zto P n S (zto P n S h) < 2147483648 by omega) (show h < 2147483648 by omega)]
    rw [if_neg (show ¬ zK P S (zto P n S h) = 4 by omega), c4]
    by_cases q : zto P n S (zto P n S h) = h
    · rw [if_pos q, decide_eq_true q]
      obtain ⟨G4, v1, v2⟩ := b63 G3 c2 (Or.inl u3) u1
      have v1' : fX4_hands_b58 E m (Int32.ofNat h) (Int32.ofNat (zto P n S h)) (zmk P n S h) G3 = _ := v1
      exact ⟨G4, by rw [v1']; simp, v2⟩
    · rw [if_neg q, decide_eq_false q]
      obtain ⟨G4, v1, v2⟩ := b33 G3 c2
      refine ⟨G4, ?_, v2⟩
      rw [v1, c4]
      simp
theorem zm_can {h f : Nat} (hT : zMt P E G m n o) (hL : zML P G (m + 15) n S) (hI : zinv P n S) (hh : h < n) (hf : f < 8) (hr : r < 1000) (h4 : gI G m 4 = Int32.ofNat r) (h35 : gI G m 35 = znum nc) (hnc : ∀ d, nc = some d → d < 8) :
    ∃ G1, fX4_can E m (Int32.ofNat h) (Int32.ofNat f) G = some (zb (zcan P n r S h f && zcho P n r S h f nc), G1) ∧ zFr (zFs m) G G1 := by
  have hn := hT.2.2.2.1
  have hP := hT.2.1.1
  have hN := hP.1
  have hM := hT.1
  have hnc' : ∀ d, nc = some d → d < 1000 := fun d hd => by have := hnc d hd; omega
  have hm3 := hL.2.1
  simp only [fX4_can, ↓zm_rI, ↓zm_chk, ↓zm_r0, ↓zm_r1, ↓zm_r9, ↓zm_r22, ↓zm_r23, ↓zm_r24, ↓zm_r25, ↓zm_r26, ↓zm_r27, ↓zm_r28, ↓zm_r29, ↓zm_r30, ↓zm_r31, ↓zm_r32, ↓zm_r33, ↓zm_r34, ↓zm_r36, ↓zm_r37, ↓zm_r38, ↓zm_r39, ↓zm_r43, ↓zm_r44, ↓zm_r45, ↓zm_r49, ↓zm_r50, ↓zm_r54, ↓zm_r55, ↓zm_r61, ↓zm_r62, ↓zm_r63, ↓zm_r64, ↓zm_r65, ↓zm_r66, ↓zm_r67, ↓zm_r69, ↓zm_a1, ↓zm_a2, ↓zm_a3, ↓zm_a4, ↓zm_a5, ↓zm_a6, ↓zm_a7, ↓zm_a8, ↓zm_a9, ↓zm_a10, ↓zm_a11, ↓zm_a12, ↓zm_a13, ↓zm_a14, ↓zm_a15, ↓zm_a16, ↓zm_a17, ↓zm_a18, ↓zm_a19, ↓zm_a20, ↓zm_a21, ↓zm_a22, ↓zm_a23, ↓zm_a24, ↓zm_a25, ↓zm_a26, ↓zm_a27, ↓zm_a28, ↓zm_a29, ↓zm_a30, ↓zm_a31, ↓zm_a32, ↓zm_a33, ↓zm_a34, ↓zm_a35, zMS_I, hM, zat_own hM hL hh, zst_own hM hL hh, Option.bind_some, zb_1, true_or, or_true, ↓reduceIte]
  by_cases ha : hat (sh S h) < zN P
  · rw [if_neg (by rw [zat_m1 hN]; exact fun q => q ha), zat_s ha]
    cases hs : hst (sh S h)
    · rw [if_pos (by decide)]
      have hs80 : hat (sh S h) < 80 := by omega
      have ks := (hT.2.1.2.2.1 _ ha).1
      simp only [↓zm_rI, ↓zm_chk, ↓zm_r0, ↓zm_r1, ↓zm_r9, ↓zm_r22, ↓zm_r23, ↓zm_r24, ↓zm_r25, ↓zm_r26, ↓zm_r27, ↓zm_r28, ↓zm_r29, ↓zm_r30, ↓zm_r31, ↓zm_r32, ↓zm_r33, ↓zm_r34, ↓zm_r36, ↓zm_r37, ↓zm_r38, ↓zm_r39, ↓zm_r43, ↓zm_r44, ↓zm_r45, ↓zm_r49, ↓zm_r50, ↓zm_r54, ↓zm_r55, ↓zm_r61, ↓zm_r62, ↓zm_r63, ↓zm_r64, ↓zm_r65, ↓zm_r66, ↓zm_r67, ↓zm_r69, ↓zm_a1, ↓zm_a2, ↓zm_a3, ↓zm_a4, ↓zm_a5, ↓zm_a6, ↓zm_a7, ↓zm_a8, ↓zm_a9, ↓zm_a10, ↓zm_a11, ↓zm_a12, ↓zm_a13, ↓zm_a14, ↓zm_a15, ↓zm_a16, ↓zm_a17, ↓zm_a18, ↓zm_a19, ↓zm_a20, ↓zm_a21, ↓zm_a22, ↓zm_a23, ↓zm_a24, ↓zm_a25, ↓zm_a26, ↓zm_a27, ↓zm_a28, ↓zm_a29, ↓zm_a30, ↓zm_a31, ↓zm_a32, ↓zm_a33, ↓zm_a34, ↓zm_a35, zMS_I, hM, hs80, ks]
      have hk7 : zkd P (hat (sh S h)) ≤ 7 := by
        rcases hI h hh with q | q
        · omega
        · exact q.2.1
      have ec : zcan P n r S h f = (if zK P S h ≤ 2 then zmay P n r S h || zhov P n S h
         else if zK P S h = 3 then (zfnd S (zto P n S h) h (zmk P n S h)).isSome
         else if zK P S h = 4 then !decide (f = h) && (zfnd S f h (zmk P n S h)).isSome
         else if zK P S h = 5 then decide (zbgn (sw S) h (sm S) = 0)
         else decide (h = 0) && zallAt P n S (zK P S h)) := by
        unfold zcan
        rw [decide_eq_true ha, hs]
        rfl
      have cases7 : zkd P (hat (sh S h)) = 0 ∨ zkd P (hat (sh S h)) = 1 ∨ zkd P (hat (sh S h)) = 2 ∨ zkd P (hat (sh S h)) = 3 ∨ zkd P (hat (sh S h)) = 4 ∨ zkd P (hat (sh S h)) = 5 ∨ zkd P (hat (sh S h)) = 6 ∨ zkd P (hat (sh S h)) = 7 := by omega
      rcases cases7 with e | e | e | e | e | e | e | e
      · -- send
        have eK : zK P S h = 0 := e
        obtain ⟨t1, t2, t3⟩ := hI.to hn hh ha hN hs (by omega)
        obtain ⟨G1, a1, a2⟩ := zm_ask (E := E) (k := 0) hT hL hh ha (by omega) (Or.inl ⟨rfl, Or.inl (by omega)⟩)
        rw [t1] at a1
        have a1' : fX4_asked E m (Int32.ofNat h) 0 G = _ := a1
        have hT1 := zFs.hT hT a2
        have hL1 := zFs.hL hL a2
        have hM1 := hT1.1
        have h4' : gI G1 m 4 = Int32.ofNat r := by rw [zFs.x a2, h4]
        obtain ⟨G2, b1, b2⟩ := zm_hands (E := E) hT1 hL1 hI hh ha hs (by omega) (by rw [zFs.x a2, h35]) hnc
        have sl := zsent_le (sw S) (8 * h + zto P n S h) (sm S)
        rw [e, if_pos (show Int32.ofNat 0 = 0 from rfl), ec, if_pos (by omega)]
        simp only [↓zm_rI, ↓zm_chk, ↓zm_r0, ↓zm_r1, ↓zm_r9, ↓zm_r22, ↓zm_r23, ↓zm_r24, ↓zm_r25, ↓zm_r26, ↓zm_r27, ↓zm_r28, ↓zm_r29, ↓zm_r30, ↓zm_r31, ↓zm_r32, ↓zm_r33, ↓zm_r34, ↓zm_r36, ↓zm_r37, ↓zm_r38, ↓zm_r39, ↓zm_r43, ↓zm_r44, ↓zm_r45, ↓zm_r49, ↓zm_r50, ↓zm_r54, ↓zm_r55, ↓zm_r61, ↓zm_r62, ↓zm_r63, ↓zm_r64, ↓zm_r65, ↓zm_r66, ↓zm_r67, ↓zm_r69, ↓zm_a1, ↓zm_a2, ↓zm_a3, ↓zm_a4, ↓zm_a5, ↓zm_a6, ↓zm_a7, ↓zm_a8, ↓zm_a9, ↓zm_a10, ↓zm_a11, ↓zm_a12, ↓zm_a13, ↓zm_a14, ↓zm_a15, ↓zm_a16, ↓zm_a17, ↓zm_a18, ↓zm_a19, ↓zm_a20, ↓zm_a21, ↓zm_a22, ↓zm_a23, ↓zm_a24, ↓zm_a25, ↓zm_a26, ↓zm_a27, ↓zm_a28, ↓zm_a29, ↓zm_a30, ↓zm_a31, ↓zm_a32, ↓zm_a33, ↓zm_a34, ↓zm_a35, zMS_I, a1', Option.bind_some, hM1, zm_sent hT1 hL1 (show h < 8 by omega) (show zto P n S h < 8 by omega), h4', zi_ltq (show zsent (sw S) (8 * h + zto P n S h) (sm S) < 2147483648 by omega) (show r < 2147483648 by omega), b1, fX4_can_b104]
        have em : zmay P n r S h = decide (zsent (sw S) (8 * h + zto P n S h) (sm S) < r) := by
          unfold zmay
          rw [eK]
          simp
        unfold zcho
        rw [if_neg (show ¬ zK P S h = 4 by omega)]
        by_cases q : zsent (sw S) (8 * h + zto P n S h) (sm S) < r
        · rw [if_pos q, em, decide_eq_true q]
          refine ⟨G1, ?_, a2⟩
          rw [if_neg (show ¬ (zK P S h ≤ 2 ∧ true = false ∧ zK P S (zto P n S h) = 4) from fun w => by cases w.2.1)]
          simp [zb]
        · rw [if_neg q, em, decide_eq_false q, Bool.false_or]
          refine ⟨G2, ?_, a2.trans b2⟩
          by_cases q4 : zK P S (zto P n S h) = 4
          · rw [if_pos q4, if_pos (show zK P S h ≤ 2 ∧ false = false ∧ zK P S (zto P n S h) = 4 from ⟨by omega, rfl, q4⟩)]
            simp only [zb_0, true_or, or_true, ↓reduceIte]
            cases (zhov P n S h && (nc.isNone || decide (nc = some h))) <;> simp [zb]
          · rw [if_neg q4, if_neg (show ¬ (zK P S h ≤ 2 ∧ false = false ∧ zK P S (zto P n S h) = 4) from fun w => q4 w.2.2)]
            simp only [zb_0, true_or, or_true, ↓reduceIte]
            cases zhov P n S h <;> simp [zb]
      · -- meet
        have eK : zK P S h = 1 := e
        obtain ⟨G2, b1, b2⟩ := zm_hands (E := E) hT hL hI hh ha hs (by omega) h35 hnc
        rw [e, if_neg (show ¬ Int32.ofNat 1 = 0 by decide), if_pos (show Int32.ofNat 1 = 1 from rfl), ec, if_pos (by omega)]
        simp only [↓zm_rI, ↓zm_chk, ↓zm_r0, ↓zm_r1, ↓zm_r9, ↓zm_r22, ↓zm_r23, ↓zm_r24, ↓zm_r25, ↓zm_r26, ↓zm_r27, ↓zm_r28, ↓zm_r29, ↓zm_r30, ↓zm_r31, ↓zm_r32, ↓zm_r33, ↓zm_r34, ↓zm_r36, ↓zm_r37, ↓zm_r38, ↓zm_r39, ↓zm_r43, ↓zm_r44, ↓zm_r45, ↓zm_r49, ↓zm_r50, ↓zm_r54, ↓zm_r55, ↓zm_r61, ↓zm_r62, ↓zm_r63, ↓zm_r64, ↓zm_r65, ↓zm_r66, ↓zm_r67, ↓zm_r69, ↓zm_a1, ↓zm_a2, ↓zm_a3, ↓zm_a4, ↓zm_a5, ↓zm_a6, ↓zm_a7, ↓zm_a8, ↓zm_a9, ↓zm_a10, ↓zm_a11, ↓zm_a12, ↓zm_a13, ↓zm_a14, ↓zm_a15, ↓zm_a16, ↓zm_a17, ↓zm_a18, ↓zm_a19, ↓zm_a20, ↓zm_a21, ↓zm_a22, ↓zm_a23, ↓zm_a24, ↓zm_a25, ↓zm_a26, ↓zm_a27, ↓zm_a28, ↓zm_a29, ↓zm_a30, ↓zm_a31, ↓zm_a32, ↓zm_a33, ↓zm_a34, ↓zm_a35, zMS_I, hM, b1, Option.bind_some, zb_ok, ↓reduceIte]
        have em : zmay P n r S h = false := by
          unfold zmay
          rw [eK]
          simp
        unfold zcho
        rw [if_neg (show ¬ zK P S h = 4 by omega), em, Bool.false_or]
        refine ⟨G2, ?_, b2⟩
        by_cases q4 : zK P S (zto P n S h) = 4
        · rw [if_pos q4, if_pos (show zK P S h ≤ 2 ∧ false = false ∧ zK P S (zto P n S h) = 4 from ⟨by omega, rfl, q4⟩)]
        · rw [if_neg q4, if_neg (show ¬ (zK P S h ≤ 2 ∧ false = false ∧ zK P S (zto P n S h) = 4) from fun w => q4 w.2.2)]
      · -- begin
        have eK : zK P S h = 2 := e
        have em : zmay P n r S h = true := by
          unfold zmay
          rw [eK]
          simp
        rw [e, if_neg (show ¬ Int32.ofNat 2 = 0 by decide), if_neg (show ¬ Int32.ofNat 2 = 1 by decide), if_pos (show Int32.ofNat 2 = 2 from rfl), ec, if_pos (by omega), em]
        unfold zcho
        rw [if_neg (show ¬ zK P S h = 4 by omega), em, if_neg (show ¬ (zK P S h ≤ 2 ∧ true = false ∧ zK P S (zto P n S h) = 4) from fun w => by cases w.2.1)]
        exact ⟨G, by simp [zb], zFr.refl _ _⟩
      · -- wait
        have eK : zK P S h = 3 := e
        obtain ⟨t1, t2, t3⟩ := hI.to hn hh ha hN hs (by omega)
        obtain ⟨G1, a1, a2⟩ := zm_ask (E := E) (k := 0) hT hL hh ha (by omega) (Or.inl ⟨rfl, Or.inl (by omega)⟩)
        rw [t1] at a1
        have a1' : fX4_asked E m (Int32.ofNat h) 0 G = _ := a1
        have hT1 := zFs.hT hT a2
        have hL1 := zFs.hL hL a2
        have hM1 := hT1.1
        obtain ⟨G2, b1, b2⟩ := zm_ask (E := E) (k := 1) hT1 hL1 hh ha (by omega) (Or.inr (Or.inl ⟨rfl, by omega⟩))
        have b1' : fX4_asked E m (Int32.ofNat h) 1 G1 = _ := b1
        have hT2 := zFs.hT hT1 b2
        have hL2 := zFs.hL hL1 b2
        have hM2 := hT2.1
        have em : zev P n h (sh S h) (hat (sh S h)) 1 = zmk P n S h := rfl
        rw [e, if_neg (show ¬ Int32.ofNat 3 = 0 by decide), if_neg (show ¬ Int32.ofNat 3 = 1 by decide), if_neg (show ¬ Int32.ofNat 3 = 2 by decide), if_pos (show Int32.ofNat 3 = 3 from rfl), ec, if_neg (show ¬ zK P S h ≤ 2 by omega), if_pos eK]
        simp only [↓zm_rI, ↓zm_chk, ↓zm_r0, ↓zm_r1, ↓zm_r9, ↓zm_r22, ↓zm_r23, ↓zm_r24, ↓zm_r25, ↓zm_r26, ↓zm_r27, ↓zm_r28, ↓zm_r29, ↓zm_r30, ↓zm_r31, ↓zm_r32, ↓zm_r33, ↓zm_r34, ↓zm_r36, ↓zm_r37, ↓zm_r38, ↓zm_r39, ↓zm_r43, ↓zm_r44, ↓zm_r45, ↓zm_r49, ↓zm_r50, ↓zm_r54, ↓zm_r55, ↓zm_r61, ↓zm_r62, ↓zm_r63, ↓zm_r64, ↓zm_r65, ↓zm_r66, ↓zm_r67, ↓zm_r69, ↓zm_a1, ↓zm_a2, ↓zm_a3, ↓zm_a4, ↓zm_a5, ↓zm_a6, ↓zm_a7, ↓zm_a8, ↓zm_a9, ↓zm_a10, ↓zm_a11, ↓zm_a12, ↓zm_a13, ↓zm_a14, ↓zm_a15, ↓zm_a16, ↓zm_a17, ↓zm_a18, ↓zm_a19, ↓zm_a20, ↓zm_a21, ↓zm_a22, ↓zm_a23, ↓zm_a24, ↓zm_a25, ↓zm_a26, ↓zm_a27, ↓zm_a28, ↓zm_a29, ↓zm_a30, ↓zm_a31, ↓zm_a32, ↓zm_a33, ↓zm_a34, ↓zm_a35, zMS_I, hM, a1', Option.bind_some, hM1, b1', hM2, em, zm_lying _ hT2 hL2 (show zto P n S h < 8 by omega) (show h < 8 by omega), zfnd_n hm3, true_or, or_true, ↓reduceIte]
        refine ⟨G2, ?_, a2.trans b2⟩
        unfold zcho
        rw [if_neg (show ¬ zK P S h = 4 by omega), if_neg (show ¬ (zK P S h ≤ 2 ∧ _) from fun w => by omega)]
        cases zfnd S (zto P n S h) h (zmk P n S h) <;> simp [zb]
      · -- any
        have eK : zK P S h = 4 := e
        rw [e, if_neg (show ¬ Int32.ofNat 4 = 0 by decide), if_neg (show ¬ Int32.ofNat 4 = 1 by decide), if_neg (show ¬ Int32.ofNat 4 = 2 by decide), if_neg (show ¬ Int32.ofNat 4 = 3 by decide), if_pos (show Int32.ofNat 4 = 4 from rfl), ec, if_neg (show ¬ zK P S h ≤ 2 by omega), if_neg (show ¬ zK P S h = 3 by omega), if_pos eK]
        unfold zcho
        rw [if_pos eK]
        by_cases qf : f = h
        · rw [if_pos (by rw [qf]), decide_eq_true qf]
          exact ⟨G, by simp [zb], zFr.refl _ _⟩
        · rw [if_neg (zi_ne (by omega) (by omega) qf), decide_eq_false qf]
          obtain ⟨G1, a1, a2⟩ := zm_ask (E := E) (k := 1) hT hL hh ha (by omega) (Or.inr (Or.inl ⟨rfl, by omega⟩))
          have a1' : fX4_asked E m (Int32.ofNat h) 1 G = _ := a1
          have hT1 := zFs.hT hT a2
          have hL1 := zFs.hL hL a2
          have hM1 := hT1.1
          have em : zev P n h (sh S h) (hat (sh S h)) 1 = zmk P n S h := rfl
          have b164 : fX4_can_b164 E m (Int32.ofNat h) (Int32.ofNat f) G = some (zb (zfnd S f h (zmk P n S h)).isSome, G1) := by
            simp only [fX4_can_b164, ↓zm_rI, ↓zm_chk, ↓zm_r0, ↓zm_r1, ↓zm_r9, ↓zm_r22, ↓zm_r23, ↓zm_r24, ↓zm_r25, ↓zm_r26, ↓zm_r27, ↓zm_r28, ↓zm_r29, ↓zm_r30, ↓zm_r31, ↓zm_r32, ↓zm_r33, ↓zm_r34, ↓zm_r36, ↓zm_r37, ↓zm_r38, ↓zm_r39, ↓zm_r43, ↓zm_r44, ↓zm_r45, ↓zm_r49, ↓zm_r50, ↓zm_r54, ↓zm_r55, ↓zm_r61, ↓zm_r62, ↓zm_r63, ↓zm_r64, ↓zm_r65, ↓zm_r66, ↓zm_r67, ↓zm_r69, ↓zm_a1, ↓zm_a2, ↓zm_a3, ↓zm_a4, ↓zm_a5, ↓zm_a6, ↓zm_a7, ↓zm_a8, ↓zm_a9, ↓zm_a10, ↓zm_a11, ↓zm_a12, ↓zm_a13, ↓zm_a14, ↓zm_a15, ↓zm_a16, ↓zm_a17, ↓zm_a18, ↓zm_a19, ↓zm_a20, ↓zm_a21, ↓zm_a22, ↓zm_a23, ↓zm_a24, ↓zm_a25, ↓zm_a26, ↓zm_a27, ↓zm_a28, ↓zm_a29, ↓zm_a30, ↓zm_a31, ↓zm_a32, ↓zm_a33, ↓zm_a34, ↓zm_a35, zMS_I, hM, a1', Option.bind_some, hM1, em, zm_lying _ hT1 hL1 hf (show h < 8 by omega), zfnd_n hm3, true_or, or_true, ↓reduceIte]
            cases zfnd S f h (zmk P n S h) <;> simp [zb]
          have eq2 := znum_eq (nc := nc) (c := f) (by omega) hnc'
          simp only [↓zm_rI, ↓zm_chk, ↓zm_r0, ↓zm_r1, ↓zm_r9, ↓zm_r22, ↓zm_r23, ↓zm_r24, ↓zm_r25, ↓zm_r26, ↓zm_r27, ↓zm_r28, ↓zm_r29, ↓zm_r30, ↓zm_r31, ↓zm_r32, ↓zm_r33, ↓zm_r34, ↓zm_r36, ↓zm_r37, ↓zm_r38, ↓zm_r39, ↓zm_r43, ↓zm_r44, ↓zm_r45, ↓zm_r49, ↓zm_r50, ↓zm_r54, ↓zm_r55, ↓zm_r61, ↓zm_r62, ↓zm_r63, ↓zm_r64, ↓zm_r65, ↓zm_r66, ↓zm_r67, ↓zm_r69, ↓zm_a1, ↓zm_a2, ↓zm_a3, ↓zm_a4, ↓zm_a5, ↓zm_a6, ↓zm_a7, ↓zm_a8, ↓zm_a9, ↓zm_a10, ↓zm_a11, ↓zm_a12, ↓zm_a13, ↓zm_a14, ↓zm_a15, ↓zm_a16, ↓zm_a17, ↓zm_a18, ↓zm_a19, ↓zm_a20, ↓zm_a21, ↓zm_a22, ↓zm_a23, ↓zm_a24, ↓zm_a25, ↓zm_a26, ↓zm_a27, ↓zm_a28, ↓zm_a29, ↓zm_a30, ↓zm_a31, ↓zm_a32, ↓zm_a33, ↓zm_a34, ↓zm_a35, zMS_I, hM, h35, znum_none hnc', b164]
          by_cases q : nc.isNone = true
          · rw [if_pos q, q]
            exact ⟨G1, by simp, a2⟩
          · rw [if_neg q]
            have q' : nc.isNone = false := (Bool.not_eq_true _).mp q
            by_cases q2 : nc = some f
            · rw [if_neg (by rw [eq2]; exact fun w => w q2), decide_eq_true q2]
              exact ⟨G1, by simp, a2⟩
            · rw [if_pos (by rw [eq2]; exact q2), q', decide_eq_false q2]
              exact ⟨G, by simp [zb], zFr.refl _ _⟩
      · -- done
        have eK : zK P S h = 5 := e
        rw [e, if_neg (show ¬ Int32.ofNat 5 = 0 by decide), if_neg (show ¬ Int32.ofNat 5 = 1 by decide), if_neg (show ¬ Int32.ofNat 5 = 2 by decide), if_neg (show ¬ Int32.ofNat 5 = 3 by decide), if_neg (show ¬ Int32.ofNat 5 = 4 by decide), if_pos (show Int32.ofNat 5 = 5 from rfl), ec, if_neg (show ¬ zK P S h ≤ 2 by omega), if_neg (show ¬ zK P S h = 3 by omega), if_neg (show ¬ zK P S h = 4 by omega), if_pos eK]
        simp only [↓zm_rI, ↓zm_chk, ↓zm_r0, ↓zm_r1, ↓zm_r9, ↓zm_r22, ↓zm_r23, ↓zm_r24, ↓zm_r25, ↓zm_r26, ↓zm_r27, ↓zm_r28, ↓zm_r29, ↓zm_r30, ↓zm_r31, ↓zm_r32, ↓zm_r33, ↓zm_r34, ↓zm_r36, ↓zm_r37, ↓zm_r38, ↓zm_r39, ↓zm_r43, ↓zm_r44, ↓zm_r45, ↓zm_r49, ↓zm_r50, ↓zm_r54, ↓zm_r55, ↓zm_r61, ↓zm_r62, ↓zm_r63, ↓zm_r64, ↓zm_r65, ↓zm_r66, ↓zm_r67, ↓zm_r69, ↓zm_a1, ↓zm_a2, ↓zm_a3, ↓zm_a4, ↓zm_a5, ↓zm_a6, ↓zm_a7, ↓zm_a8, ↓zm_a9, ↓zm_a10, ↓zm_a11, ↓zm_a12, ↓zm_a13, ↓zm_a14, ↓zm_a15, ↓zm_a16, ↓zm_a17, ↓zm_a18, ↓zm_a19, ↓zm_a20, ↓zm_a21, ↓zm_a22, ↓zm_a23, ↓zm_a24, ↓zm_a25, ↓zm_a26, ↓zm_a27, ↓zm_a28, ↓zm_a29, ↓zm_a30, ↓zm_a31, ↓zm_a32, ↓zm_a33, ↓zm_a34, ↓zm_a35, zMS_I, hM, zm_begun hT hL (show h < 8 by omega), Option.bind_some, true_or, or_true, ↓reduceIte]
        unfold zcho
        rw [if_neg (show ¬ zK P S h = 4 by omega), if_neg (show ¬ (zK P S h ≤ 2 ∧ _) from fun w => by omega)]
        refine ⟨G, ?_, zFr.refl _ _⟩
        by_cases c : zbgn (sw S) h (sm S) = 0
        · rw [if_neg (fun q => q c), decide_eq_true c]
          rfl
        · rw [if_pos c, decide_eq_false c]
          rfl
      all_goals
        have eK : zK P S h = _ := e
        have ks2 := ks
        rw [e] at ks2
        rw [e, ec, if_neg (show ¬ zK P S h ≤ 2 by omega), if_neg (show ¬ zK P S h = 3 by omega), if_neg (show ¬ zK P S h = 4 by omega), if_neg (show ¬ zK P S h = 5 by omega), eK]
        unfold zcho
        rw [if_neg (show ¬ zK P S h = 4 by omega), if_neg (show ¬ (zK P S h ≤ 2 ∧ _) from fun w => by omega)]
        simp only [show Int32.ofNat 6 = 6 from rfl, show Int32.ofNat 7 = 7 from rfl, show ¬ (6 : Int32) = 0 by decide, show ¬ (6 : Int32) = 1 by decide, show ¬ (6 : Int32) = 2 by decide, show ¬ (6 : Int32) = 3 by decide, show ¬ (6 : Int32) = 4 by decide, show ¬ (6 : Int32) = 5 by decide, show ¬ (7 : Int32) = 0 by decide, show ¬ (7 : Int32) = 1 by decide, show ¬ (7 : Int32) = 2 by decide, show ¬ (7 : Int32) = 3 by decide, show ¬ (7 : Int32) = 4 by decide, show ¬ (7 : Int32) = 5 by decide, show ¬ (7 : Int32) = 6 by decide, ↓reduceIte]
        have a6 : fX4_areAll E m 6 G = some (zb (zallAt P n S 6), G) := zm_areAll hT hL (k := 6) (by omega)
        have a7 : fX4_areAll E m 7 G = some (zb (zallAt P n S 7), G) := zm_areAll hT hL (k := 7) (by omega)
        refine ⟨G, ?_, zFr.refl _ _⟩
        by_cases c : h = 0
        · rw [if_neg (show ¬ ¬ Int32.ofNat h = 0 by rw [c]; decide), decide_eq_true c]
          simp only [↓zm_rI, ↓zm_chk, ↓zm_r0, ↓zm_r1, ↓zm_r9, ↓zm_r22, ↓zm_r23, ↓zm_r24, ↓zm_r25, ↓zm_r26, ↓zm_r27, ↓zm_r28, ↓zm_r29, ↓zm_r30, ↓zm_r31, ↓zm_r32, ↓zm_r33, ↓zm_r34, ↓zm_r36, ↓zm_r37, ↓zm_r38, ↓zm_r39, ↓zm_r43, ↓zm_r44, ↓zm_r45, ↓zm_r49, ↓zm_r50, ↓zm_r54, ↓zm_r55, ↓zm_r61, ↓zm_r62, ↓zm_r63, ↓zm_r64, ↓zm_r65, ↓zm_r66, ↓zm_r67, ↓zm_r69, ↓zm_a1, ↓zm_a2, ↓zm_a3, ↓zm_a4, ↓zm_a5, ↓zm_a6, ↓zm_a7, ↓zm_a8, ↓zm_a9, ↓zm_a10, ↓zm_a11, ↓zm_a12, ↓zm_a13, ↓zm_a14, ↓zm_a15, ↓zm_a16, ↓zm_a17, ↓zm_a18, ↓zm_a19, ↓zm_a20, ↓zm_a21, ↓zm_a22, ↓zm_a23, ↓zm_a24, ↓zm_a25, ↓zm_a26, ↓zm_a27, ↓zm_a28, ↓zm_a29, ↓zm_a30, ↓zm_a31, ↓zm_a32, ↓zm_a33, ↓zm_a34, ↓zm_a35, zMS_I, hM, hs80, ks2, a6, a7, Option.bind_some, zb_0, true_or, or_true, ↓reduceIte]
          cases zallAt P n S 6 <;> cases zallAt P n S 7 <;> simp [zb]
        · rw [if_pos (show ¬ Int32.ofNat h = 0 from fun q => c (zi_inj (b := 0) (by omega) (by omega) q)), decide_eq_false c]
          simp [zb]
    · rw [if_neg (by decide)]
      refine ⟨G, ?_, zFr.refl _ _⟩
      unfold zcan
      rw [hs]
      simp [zb]
  · rw [if_pos (by rw [zat_m1 hN]; exact ha)]
    refine ⟨G, ?_, zFr.refl _ _⟩
    unfold zcan
    rw [decide_eq_false ha]
    simp [zb]
end Z36
