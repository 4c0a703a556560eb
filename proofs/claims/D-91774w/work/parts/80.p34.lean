/-! THE PLAIN LAW, 34: a hand goes on, in the model -/
set_option maxRecDepth 100000
section Z34
variable {P : zPr} {E : g_E} {G : g_G} {m w n : Nat} {S : zS} {o : Nat → Bool}
theorem zgo_at (hP : zOk P) {h a : Nat} : ∀ f s (H : zH), 40 < f + s → (s < zN P ∨ s = 40) → zgo P o n h f s (a, hst H, hvr H, hfr H, htd H) = zgo P o n h f s H
  | 0, s, H, hf, hs => by
    have := hP.1
    omega
  | f + 1, s, H, hf, hs => by
    have hN := hP.1
    rw [zgo_succ, zgo_succ]
    by_cases c : zN P ≤ s
    · rw [if_pos c, if_pos c]
      rfl
    · rw [if_neg c, if_neg c]
      obtain ⟨p1, p2, p3, p4, p5⟩ := hP.2 s (by omega)
      by_cases c1 : o s = true
      · rw [if_pos c1, if_pos c1]
        exact zgo_at hP f (znx P s) H (by have := p4.1; omega) p4.2
      · rw [if_neg c1, if_neg c1]
        by_cases c8 : zkd P s = 8
        · rw [if_pos c8, if_pos c8]
          exact zgo_at hP f (znx P s) (hat H, hst H, va_up (hvr H) (zvr P s) (zev P n h H s 0), hfr H, htd H) (by have := p4.1; omega) p4.2
        · rw [if_neg c8, if_neg c8]
          by_cases c9 : zkd P s = 9
          · rw [if_pos c9, if_pos c9]
            exact zgo_at hP f (znx P s) (hat H, hst H, hvr H, hfr H, 31 * htd H + zev P n h H s 0) (by have := p4.1; omega) p4.2
          · rw [if_neg c9, if_neg c9]
            by_cases c10 : zkd P s = 10
            · rw [if_pos c10, if_pos c10]
              obtain ⟨p6, p7⟩ := p5 c10
              have pn : zgt P s (if zev P n h H s 0 = 0 then zot P s else zth P s) := by
                split
                · exact p7
                · exact p6
              exact zgo_at hP f (if zev P n h H s 0 = 0 then zot P s else zth P s) H (by have := pn.1; omega) pn.2
            · rw [if_neg c10, if_neg c10]
              rfl
theorem zm_come_b5 {h : Nat} (hh : h < n) : ∀ f s F (G : g_G) (S : zS), zMt P E G m n o → zML P G (m + 15) n S → hst (sh S h) = false → (s < zN P ∨ s = 40) → 40 < f + s → f + 1 < F →
    ∃ G1, fX4_come_b5 E F m (Int32.ofNat h) (zsp P s) 1 G = some G1 ∧ zFr (zFw m) G G1 ∧ zML P G1 (m + 15) n (zupH S h (zgo P o n h f s (sh S h)))
  | 0, s, F, G, S, hT, _, _, hs, hf, _ => by
    have := hT.2.1.1.1
    omega
  | f + 1, s, F, G, S, hT, hL, hst0, hs, hf, hF => by
    obtain ⟨F, rfl⟩ := z_suc hF
    obtain ⟨F, rfl⟩ := z_suc (show f < F by omega)
    have hP := hT.2.1.1
    have hN := hP.1
    have hn := hT.2.2.2.1
    have hM := hT.1
    have hB := hT.2.2.1
    have hL1 := hL.at (s := s) hh
    have pp : fX4_put E m (Int32.ofNat h) 0 (zsp P s) G = some (gsI G (m + 15) (8 * h + 0) (zsp P s)) := zm_put hM hB (k := 0) (by omega)
    have f1 : zFr (zFw m) G (gsI G (m + 15) (8 * h + 0) (zsp P s)) := zFr.wI (Or.inl rfl)
    generalize hG1 : gsI G (m + 15) (8 * h + 0) (zsp P s) = G1 at *
    have hT1 : zMt P E G1 m n o := hT.fr f1 (fun a ha => by unfold zFw at ha; omega)
    have hM1 := hT1.1
    have ehat : hat (sh (zupH S h (s, hst (sh S h), hvr (sh S h), hfr (sh S h), htd (sh S h))) h) = s := by rw [zup_h]; rfl
    have ehst : hst (sh (zupH S h (s, hst (sh S h), hvr (sh S h), hfr (sh S h), htd (sh S h))) h) = false := by rw [zup_h]; exact hst0
    rw [fX4_come_b5, if_neg (by decide), zm_chk hM, pp, Option.bind_some, zgo_succ]
    by_cases cN : zN P ≤ s
    · -- it ends
      rw [if_pos (by rw [zsp_m1 hN]; omega), if_pos cN]
      obtain ⟨G2, g1, g2, g3⟩ := zm_come_end (E := E) hT1 hL1 hh ehat ehst (fun q => absurd q (by omega)) F
      have e40 : s = 40 := by omega
      refine ⟨G2, ?_, f1.trans g2, ?_⟩
      · simp only [fX4_come_b46, fX4_come_b47, not_true_eq_false, ↓reduceIte]
        exact g1
      · rw [zup_h, zup_up, decide_eq_false (by omega), Bool.false_and, e40] at g3
        rw [hst0]
        exact g3
    · have hs1 : s < zN P := by omega
      have e : zsp P s = Int32.ofNat s := if_pos hs1
      have s40 : s < 40 := by omega
      have s80 : s < 80 := by omega
      obtain ⟨p1, p2, p3, p4, p5⟩ := hP.2 s hs1
      obtain ⟨ks, vs, ms⟩ := hT1.2.1.2.2.1 s hs1
      have hfo := zm_fol (E := E) hT1 hs1
      have enx : (if znx P s < zN P then Int32.ofNat (znx P s) else -1) = zsp P (znx P s) := rfl
      rw [enx] at hfo
      rw [if_neg (by rw [zsp_m1 hN]; omega), if_neg cN, e]
      simp only [↓zm_rI, ↓zm_chk, ↓zm_r0, ↓zm_r1, ↓zm_r9, ↓zm_r22, ↓zm_r23, ↓zm_r24, ↓zm_r25, ↓zm_r26, ↓zm_r27, ↓zm_r28, ↓zm_r29, ↓zm_r30, ↓zm_r31, ↓zm_r32, ↓zm_r33, ↓zm_r34, ↓zm_r36, ↓zm_r37, ↓zm_r38, ↓zm_r39, ↓zm_r43, ↓zm_r44, ↓zm_r45, ↓zm_r49, ↓zm_r50, ↓zm_r54, ↓zm_r55, ↓zm_r61, ↓zm_r62, ↓zm_r63, ↓zm_r64, ↓zm_r65, ↓zm_r66, ↓zm_r67, ↓zm_r69, ↓zm_a1, ↓zm_a2, ↓zm_a3, ↓zm_a4, ↓zm_a5, ↓zm_a6, ↓zm_a7, ↓zm_a8, ↓zm_a9, ↓zm_a10, ↓zm_a11, ↓zm_a12, ↓zm_a13, ↓zm_a14, ↓zm_a15, ↓zm_a16, ↓zm_a17, ↓zm_a18, ↓zm_a19, ↓zm_a20, ↓zm_a21, ↓zm_a22, ↓zm_a23, ↓zm_a24, ↓zm_a25, ↓zm_a26, ↓zm_a27, ↓zm_a28, ↓zm_a29, ↓zm_a30, ↓zm_a31, ↓zm_a32, ↓zm_a33, ↓zm_a34, ↓zm_a35, zMS_I, hM1, s40, hT1.2.2.2.2.2 s s40, zb_n0, zb_0]
      -- on to another step
      have on : ∀ (t : Nat) (G3 : g_G) (J : zH), zFr (zFw m) G1 G3 → (t < zN P ∨ t = 40) → s < t → hst J = false → zML P G3 (m + 15) n (zupH S h (s, hst J, hvr J, hfr J, htd J)) → ∃ G4, fX4_come_b5 E (F + 1) m (Int32.ofNat h) (zsp P t) 1 G3 = some G4 ∧ zFr (zFw m) G G4 ∧ zML P G4 (m + 15) n (zupH S h (zgo P o n h f t J)) := fun t G3 J f3 ht hst' hJ hL3 => by
        have hT3 : zMt P E G3 m n o := hT1.fr f3 (fun a ha => by unfold zFw at ha; omega)
        obtain ⟨G4, w1, w2, w3⟩ := zm_come_b5 hh f t (F + 1) G3 _ hT3 hL3 (by rw [zup_h]; exact hJ) ht (by omega) (by omega)
        rw [zup_h, zup_up, zgo_at hP f t J (by omega) ht] at w3
        exact ⟨G4, w1, (f1.trans f3).trans w2, w3⟩
      cases co : o s
      · rw [if_neg (by decide), if_neg (by decide)]
        simp only [↓zm_rI, ↓zm_chk, ↓zm_r0, ↓zm_r1, ↓zm_r9, ↓zm_r22, ↓zm_r23, ↓zm_r24, ↓zm_r25, ↓zm_r26, ↓zm_r27, ↓zm_r28, ↓zm_r29, ↓zm_r30, ↓zm_r31, ↓zm_r32, ↓zm_r33, ↓zm_r34, ↓zm_r36, ↓zm_r37, ↓zm_r38, ↓zm_r39, ↓zm_r43, ↓zm_r44, ↓zm_r45, ↓zm_r49, ↓zm_r50, ↓zm_r54, ↓zm_r55, ↓zm_r61, ↓zm_r62, ↓zm_r63, ↓zm_r64, ↓zm_r65, ↓zm_r66, ↓zm_r67, ↓zm_r69, ↓zm_a1, ↓zm_a2, ↓zm_a3, ↓zm_a4, ↓zm_a5, ↓zm_a6, ↓zm_a7, ↓zm_a8, ↓zm_a9, ↓zm_a10, ↓zm_a11, ↓zm_a12, ↓zm_a13, ↓zm_a14, ↓zm_a15, ↓zm_a16, ↓zm_a17, ↓zm_a18, ↓zm_a19, ↓zm_a20, ↓zm_a21, ↓zm_a22, ↓zm_a23, ↓zm_a24, ↓zm_a25, ↓zm_a26, ↓zm_a27, ↓zm_a28, ↓zm_a29, ↓zm_a30, ↓zm_a31, ↓zm_a32, ↓zm_a33, ↓zm_a34, ↓zm_a35, zMS_I, hM1, s80, ks]
        by_cases c8' : zkd P s < 8
        · -- it stays
          rw [if_pos (show Int32.ofNat (zkd P s) < 8 from zi_lt (b := 8) c8' (by omega)), if_neg (by omega), if_neg (by omega), if_neg (by omega)]
          obtain ⟨G2, g1, g2, g3⟩ := zm_come_end (E := E) hT1 hL1 hh ehat ehst (fun _ => by omega) F
          refine ⟨G2, ?_, f1.trans g2, ?_⟩
          · simp only [fX4_come_b46, fX4_come_b47, not_true_eq_false, ↓reduceIte]
            rw [← e]
            exact g1
          · rw [zup_h, zup_up, decide_eq_true hs1, Bool.true_and] at g3
            exact g3
        · -- it is quiet
          have hk10 : 8 ≤ zkd P s ∧ zkd P s ≤ 10 := by omega
          rw [if_neg (show ¬ Int32.ofNat (zkd P s) < 8 from zi_nlt (b := 8) (by omega) (by omega))]
          obtain ⟨G2, a1, a2⟩ := zm_ask (E := E) (k := 0) hT1 hL1 hh (by rw [ehat]; exact hs1) (by omega) (Or.inl ⟨rfl, by rw [ehat]; omega⟩)
          rw [ehat, zup_h] at a1
          have ev : zev P n h (s, hst (sh S h), hvr (sh S h), hfr (sh S h), htd (sh S h)) s 0 = zev P n h (sh S h) s 0 := rfl
          rw [ev] at a1
          have a1' : fX4_asked E m (Int32.ofNat h) 0 G1 = _ := a1
          have hT2 : zMt P E G2 m n o := hT1.fr a2 (fun a ha => by unfold zFs at ha; omega)
          have hL2 := hL1.fr a2 (by unfold zFs; omega)
          have hM2 := hT2.1
          have f2 : zFr (zFw m) G1 G2 := a2.mono fun a q => Or.inr q
          obtain ⟨ks2, vs2, -⟩ := hT2.2.1.2.2.1 s hs1
          simp only [fX4_come_b42, fX4_come_b47, show ¬ (1 : Int32) = 0 by decide, not_false_eq_true, ↓reduceIte, ↓zm_rI, ↓zm_chk, ↓zm_r0, ↓zm_r1, ↓zm_r9, ↓zm_r22, ↓zm_r23, ↓zm_r24, ↓zm_r25, ↓zm_r26, ↓zm_r27, ↓zm_r28, ↓zm_r29, ↓zm_r30, ↓zm_r31, ↓zm_r32, ↓zm_r33, ↓zm_r34, ↓zm_r36, ↓zm_r37, ↓zm_r38, ↓zm_r39, ↓zm_r43, ↓zm_r44, ↓zm_r45, ↓zm_r49, ↓zm_r50, ↓zm_r54, ↓zm_r55, ↓zm_r61, ↓zm_r62, ↓zm_r63, ↓zm_r64, ↓zm_r65, ↓zm_r66, ↓zm_r67, ↓zm_r69, ↓zm_a1, ↓zm_a2, ↓zm_a3, ↓zm_a4, ↓zm_a5, ↓zm_a6, ↓zm_a7, ↓zm_a8, ↓zm_a9, ↓zm_a10, ↓zm_a11, ↓zm_a12, ↓zm_a13, ↓zm_a14, ↓zm_a15, ↓zm_a16, ↓zm_a17, ↓zm_a18, ↓zm_a19, ↓zm_a20, ↓zm_a21, ↓zm_a22, ↓zm_a23, ↓zm_a24, ↓zm_a25, ↓zm_a26, ↓zm_a27, ↓zm_a28, ↓zm_a29, ↓zm_a30, ↓zm_a31, ↓zm_a32, ↓zm_a33, ↓zm_a34, ↓zm_a35, zMS_I, hM1, hfo, Option.bind_some, s40, hT1.2.2.2.2.2 s s40, co, zb_n0, Bool.false_eq_true, a1', hM2, s80, ks2, vs2]
          have n8 : ∀ k : Nat, k < 100 → (Int32.ofNat (zkd P s) = Int32.ofNat k) = (zkd P s = k) := fun k hk => zi_eq (by omega) (by omega)
          by_cases c8 : zkd P s = 8
          · rw [if_pos c8, if_neg (show ¬ ¬ Int32.ofNat (zkd P s) = 8 from fun q => q (by rw [c8]; rfl))]
            have pv : fX4_put E m (Int32.ofNat h) (2 + Int32.ofNat (zvr P s)) (zev P n h (sh S h) s 0) G2 = some (gsI G2 (m + 15) (8 * h + (2 + zvr P s)) (zev P n h (sh S h) s 0)) := by
              have : (2 : Int32) + Int32.ofNat (zvr P s) = Int32.ofNat (2 + zvr P s) := zi_add 2 _
              rw [this]
              exact zm_put hM2 hB (by omega)
            have hL3 := hL2.vr (k := zvr P s) (v := zev P n h (sh S h) s 0) hh p2
            rw [zup_h, zup_up] at hL3
            have ks3 : gI (gsI G2 (m + 15) (8 * h + (2 + zvr P s)) (zev P n h (sh S h) s 0)) (m + 6) s = Int32.ofNat (zkd P s) := by rw [zq_II, if_neg (by omega)]; exact ks2
            have hM3 : zMS (gsI G2 (m + 15) (8 * h + (2 + zvr P s)) (zev P n h (sh S h) s 0)) m := hM2
            obtain ⟨G4, w1, w2, w3⟩ := on (znx P s) _ (hat (sh S h), hst (sh S h), va_up (hvr (sh S h)) (zvr P s) (zev P n h (sh S h) s 0), hfr (sh S h), htd (sh S h)) (f2.wI2 (Or.inl rfl)) p4.2 p4.1 hst0 hL3
            refine ⟨G4, ?_, w2, w3⟩
            simp only [pv, Option.bind_some, fX4_come_b107, fX4_come_b138, ↓zm_rI, ↓zm_chk, ↓zm_r0, ↓zm_r1, ↓zm_r9, ↓zm_r22, ↓zm_r23, ↓zm_r24, ↓zm_r25, ↓zm_r26, ↓zm_r27, ↓zm_r28, ↓zm_r29, ↓zm_r30, ↓zm_r31, ↓zm_r32, ↓zm_r33, ↓zm_r34, ↓zm_r36, ↓zm_r37, ↓zm_r38, ↓zm_r39, ↓zm_r43, ↓zm_r44, ↓zm_r45, ↓zm_r49, ↓zm_r50, ↓zm_r54, ↓zm_r55, ↓zm_r61, ↓zm_r62, ↓zm_r63, ↓zm_r64, ↓zm_r65, ↓zm_r66, ↓zm_r67, ↓zm_r69, ↓zm_a1, ↓zm_a2, ↓zm_a3, ↓zm_a4, ↓zm_a5, ↓zm_a6, ↓zm_a7, ↓zm_a8, ↓zm_a9, ↓zm_a10, ↓zm_a11, ↓zm_a12, ↓zm_a13, ↓zm_a14, ↓zm_a15, ↓zm_a16, ↓zm_a17, ↓zm_a18, ↓zm_a19, ↓zm_a20, ↓zm_a21, ↓zm_a22, ↓zm_a23, ↓zm_a24, ↓zm_a25, ↓zm_a26, ↓zm_a27, ↓zm_a28, ↓zm_a29, ↓zm_a30, ↓zm_a31, ↓zm_a32, ↓zm_a33, ↓zm_a34, ↓zm_a35, zMS_I, hM3, s80, ks3]
            rw [if_pos (show ¬ Int32.ofNat (zkd P s) = 9 by rw [c8]; decide), if_pos (show ¬ Int32.ofNat (zkd P s) = 10 by rw [c8]; decide)]
            exact w1
          · rw [if_neg c8, if_pos (show ¬ Int32.ofNat (zkd P s) = 8 from fun q => c8 (zi_inj (b := 8) (by omega) (by omega) q))]
            simp only [fX4_come_b107, ↓zm_rI, ↓zm_chk, ↓zm_r0, ↓zm_r1, ↓zm_r9, ↓zm_r22, ↓zm_r23, ↓zm_r24, ↓zm_r25, ↓zm_r26, ↓zm_r27, ↓zm_r28, ↓zm_r29, ↓zm_r30, ↓zm_r31, ↓zm_r32, ↓zm_r33, ↓zm_r34, ↓zm_r36, ↓zm_r37, ↓zm_r38, ↓zm_r39, ↓zm_r43, ↓zm_r44, ↓zm_r45, ↓zm_r49, ↓zm_r50, ↓zm_r54, ↓zm_r55, ↓zm_r61, ↓zm_r62, ↓zm_r63, ↓zm_r64, ↓zm_r65, ↓zm_r66, ↓zm_r67, ↓zm_r69, ↓zm_a1, ↓zm_a2, ↓zm_a3, ↓zm_a4, ↓zm_a5, ↓zm_a6, ↓zm_a7, ↓zm_a8, ↓zm_a9, ↓zm_a10, ↓zm_a11, ↓zm_a12, ↓zm_a13, ↓zm_a14, ↓zm_a15, ↓zm_a16, ↓zm_a17, ↓zm_a18, ↓zm_a19, ↓zm_a20, ↓zm_a21, ↓zm_a22, ↓zm_a23, ↓zm_a24, ↓zm_a25, ↓zm_a26, ↓zm_a27, ↓zm_a28, ↓zm_a29, ↓zm_a30, ↓zm_a31, ↓zm_a32, ↓zm_a33, ↓zm_a34, ↓zm_a35, zMS_I, hM2, s80, ks2]
            by_cases c9 : zkd P s = 9
            · rw [if_pos c9, if_neg (show ¬ ¬ Int32.ofNat (zkd P s) = 9 from fun q => q (by rw [c9]; rfl))]
              have ow : fX4_own E m (Int32.ofNat h) 7 G2 = some (htd (sh S h), G2) := by
                have := zm_own (E := E) (h := h) (k := 7) hM2 (by omega)
                have d := (hL2.hd hh).2.2.2.2
                rw [zup_h] at d
                have d' : gI G2 (m + 15) (8 * h + 7) = htd (sh S h) := d
                rw [← d']
                exact this
              have pv : fX4_put E m (Int32.ofNat h) 7 (31 * htd (sh S h) + zev P n h (sh S h) s 0) G2 = some (gsI G2 (m + 15) (8 * h + 7) (31 * htd (sh S h) + zev P n h (sh S h) s 0)) := zm_put hM2 hB (k := 7) (by omega)
              have hL3 := hL2.td (v := 31 * htd (sh S h) + zev P n h (sh S h) s 0) hh
              rw [zup_h, zup_up] at hL3
              have ks3 : gI (gsI G2 (m + 15) (8 * h + 7) (31 * htd (sh S h) + zev P n h (sh S h) s 0)) (m + 6) s = Int32.ofNat (zkd P s) := by rw [zq_II, if_neg (by omega)]; exact ks2
              have hM3 : zMS (gsI G2 (m + 15) (8 * h + 7) (31 * htd (sh S h) + zev P n h (sh S h) s 0)) m := hM2
              obtain ⟨G4, w1, w2, w3⟩ := on (znx P s) _ (hat (sh S h), hst (sh S h), hvr (sh S h), hfr (sh S h), 31 * htd (sh S h) + zev P n h (sh S h) s 0) (f2.wI2 (Or.inl rfl)) p4.2 p4.1 hst0 hL3
              refine ⟨G4, ?_, w2, w3⟩
              simp only [ow, pv, Option.bind_some, fX4_come_b138, ↓zm_rI, ↓zm_chk, ↓zm_r0, ↓zm_r1, ↓zm_r9, ↓zm_r22, ↓zm_r23, ↓zm_r24, ↓zm_r25, ↓zm_r26, ↓zm_r27, ↓zm_r28, ↓zm_r29, ↓zm_r30, ↓zm_r31, ↓zm_r32, ↓zm_r33, ↓zm_r34, ↓zm_r36, ↓zm_r37, ↓zm_r38, ↓zm_r39, ↓zm_r43, ↓zm_r44, ↓zm_r45, ↓zm_r49, ↓zm_r50, ↓zm_r54, ↓zm_r55, ↓zm_r61, ↓zm_r62, ↓zm_r63, ↓zm_r64, ↓zm_r65, ↓zm_r66, ↓zm_r67, ↓zm_r69, ↓zm_a1, ↓zm_a2, ↓zm_a3, ↓zm_a4, ↓zm_a5, ↓zm_a6, ↓zm_a7, ↓zm_a8, ↓zm_a9, ↓zm_a10, ↓zm_a11, ↓zm_a12, ↓zm_a13, ↓zm_a14, ↓zm_a15, ↓zm_a16, ↓zm_a17, ↓zm_a18, ↓zm_a19, ↓zm_a20, ↓zm_a21, ↓zm_a22, ↓zm_a23, ↓zm_a24, ↓zm_a25, ↓zm_a26, ↓zm_a27, ↓zm_a28, ↓zm_a29, ↓zm_a30, ↓zm_a31, ↓zm_a32, ↓zm_a33, ↓zm_a34, ↓zm_a35, zMS_I, hM2, hM3, s80, ks3]
              rw [if_pos (show ¬ Int32.ofNat (zkd P s) = 10 by rw [c9]; decide)]
              exact w1
            · rw [if_neg c9, if_pos (show ¬ Int32.ofNat (zkd P s) = 9 from fun q => c9 (zi_inj (b := 9) (by omega) (by omega) q))]
              have c10 : zkd P s = 10 := by omega
              rw [if_pos c10]
              obtain ⟨p6, p7⟩ := p5 c10
              obtain ⟨th, ot⟩ := hT2.2.1.2.2.2.2.1 s hs1 c10
              have same : zML P G2 (m + 15) n (zupH S h (s, hst (sh S h), hvr (sh S h), hfr (sh S h), htd (sh S h))) := hL2
              simp only [fX4_come_b138, ↓zm_rI, ↓zm_chk, ↓zm_r0, ↓zm_r1, ↓zm_r9, ↓zm_r22, ↓zm_r23, ↓zm_r24, ↓zm_r25, ↓zm_r26, ↓zm_r27, ↓zm_r28, ↓zm_r29, ↓zm_r30, ↓zm_r31, ↓zm_r32, ↓zm_r33, ↓zm_r34, ↓zm_r36, ↓zm_r37, ↓zm_r38, ↓zm_r39, ↓zm_r43, ↓zm_r44, ↓zm_r45, ↓zm_r49, ↓zm_r50, ↓zm_r54, ↓zm_r55, ↓zm_r61, ↓zm_r62, ↓zm_r63, ↓zm_r64, ↓zm_r65, ↓zm_r66, ↓zm_r67, ↓zm_r69, ↓zm_a1, ↓zm_a2, ↓zm_a3, ↓zm_a4, ↓zm_a5, ↓zm_a6, ↓zm_a7, ↓zm_a8, ↓zm_a9, ↓zm_a10, ↓zm_a11, ↓zm_a12, ↓zm_a13, ↓zm_a14, ↓zm_a15, ↓zm_a16, ↓zm_a17, ↓zm_a18, ↓zm_a19, ↓zm_a20, ↓zm_a21, ↓zm_a22, ↓zm_a23, ↓zm_a24, ↓zm_a25, ↓zm_a26, ↓zm_a27, ↓zm_a28, ↓zm_a29, ↓zm_a30, ↓zm_a31, ↓zm_a32, ↓zm_a33, ↓zm_a34, ↓zm_a35, zMS_I, hM2, s80, ks2]
              rw [if_neg (show ¬ ¬ Int32.ofNat (zkd P s) = 10 from fun q => q (by rw [c10]; rfl))]
              simp only [fX4_come_b169, fX4_come_b184, fX4_come_b186]
              by_cases cz : zev P n h (sh S h) s 0 = 0
              · rw [if_pos cz, if_pos cz]
                obtain ⟨G4, w1, w2, w3⟩ := on (zot P s) G2 (sh S h) f2 p7.2 p7.1 hst0 same
                refine ⟨G4, ?_, w2, w3⟩
                rcases ot with ⟨q1, q2⟩ | ⟨q1, q2⟩
                · rw [q1, if_neg (fun q => q rfl), ← q2]
                  exact w1
                · rw [q1, if_pos (zm1 _ (by omega))]
                  have : zsp P (zot P s) = Int32.ofNat (zot P s) := if_pos q2
                  rw [← this]
                  exact w1
              · rw [if_neg cz, if_neg cz]
                obtain ⟨G4, w1, w2, w3⟩ := on (zth P s) G2 (sh S h) f2 p6.2 p6.1 hst0 same
                refine ⟨G4, ?_, w2, w3⟩
                rcases th with ⟨q1, q2⟩ | ⟨q1, q2⟩
                · rw [q1, if_neg (fun q => q rfl), ← q2]
                  exact w1
                · rw [q1, if_pos (zm1 _ (by omega))]
                  have : zsp P (zth P s) = Int32.ofNat (zth P s) := if_pos q2
                  rw [← this]
                  exact w1
      · -- it is left out
        rw [if_pos (show ¬ true = false by decide)]
        try rw [if_pos rfl]
        obtain ⟨G4, w1, w2, w3⟩ := on (znx P s) G1 (sh S h) (zFr.refl _ _) p4.2 p4.1 hst0 hL1
        refine ⟨G4, ?_, w2, w3⟩
        simp only [fX4_come_b42, fX4_come_b47, show ¬ (1 : Int32) = 0 by decide, not_false_eq_true, ↓reduceIte, ↓zm_rI, ↓zm_chk, ↓zm_r0, ↓zm_r1, ↓zm_r9, ↓zm_r22, ↓zm_r23, ↓zm_r24, ↓zm_r25, ↓zm_r26, ↓zm_r27, ↓zm_r28, ↓zm_r29, ↓zm_r30, ↓zm_r31, ↓zm_r32, ↓zm_r33, ↓zm_r34, ↓zm_r36, ↓zm_r37, ↓zm_r38, ↓zm_r39, ↓zm_r43, ↓zm_r44, ↓zm_r45, ↓zm_r49, ↓zm_r50, ↓zm_r54, ↓zm_r55, ↓zm_r61, ↓zm_r62, ↓zm_r63, ↓zm_r64, ↓zm_r65, ↓zm_r66, ↓zm_r67, ↓zm_r69, ↓zm_a1, ↓zm_a2, ↓zm_a3, ↓zm_a4, ↓zm_a5, ↓zm_a6, ↓zm_a7, ↓zm_a8, ↓zm_a9, ↓zm_a10, ↓zm_a11, ↓zm_a12, ↓zm_a13, ↓zm_a14, ↓zm_a15, ↓zm_a16, ↓zm_a17, ↓zm_a18, ↓zm_a19, ↓zm_a20, ↓zm_a21, ↓zm_a22, ↓zm_a23, ↓zm_a24, ↓zm_a25, ↓zm_a26, ↓zm_a27, ↓zm_a28, ↓zm_a29, ↓zm_a30, ↓zm_a31, ↓zm_a32, ↓zm_a33, ↓zm_a34, ↓zm_a35, zMS_I, hM1, hfo, Option.bind_some, s40, hT1.2.2.2.2.2 s s40, co, zb_n0, fX4_come_b186]
        exact w1
theorem zm_come {h s : Nat} (hh : h < n) (hT : zMt P E G m n o) (hL : zML P G (m + 15) n S) (hst0 : hst (sh S h) = false) (hs : s < zN P ∨ s = 40) :
    ∃ G1, fX4_come E m (Int32.ofNat h) (zsp P s) G = some G1 ∧ zFr (zFw m) G G1 ∧ zML P G1 (m + 15) n (zupH S h (zgoes P o n h s (sh S h))) :=
  zm_come_b5 hh 41 s gFU G S hT hL hst0 hs (by omega) (z_F _ (by omega))
theorem zm_goOn {h : Nat} (hh : h < n) (hT : zMt P E G m n o) (hL : zML P G (m + 15) n S) (ha : hat (sh S h) < zN P) (hst0 : hst (sh S h) = false) :
    ∃ G1, fX4_goOn E m (Int32.ofNat h) G = some G1 ∧ zFr (zFw m) G G1 ∧ zML P G1 (m + 15) n (zgoOn P o n S h) := by
  have hM := hT.1
  have hn := hT.2.2.2.1
  obtain ⟨p1, p2, p3, p4, p5⟩ := hT.2.1.1.2 _ ha
  obtain ⟨G1, g1, g2, g3⟩ := zm_come (E := E) hh hT hL hst0 p4.2
  have o0 : fX4_own E m (Int32.ofNat h) 0 G = some (Int32.ofNat (hat (sh S h)), G) := by
    have := zm_own (E := E) (h := h) (k := 0) hM (by omega)
    have d1 := (hL.hd hh).1
    unfold zat at d1
    rw [if_pos ha] at d1
    rw [← d1]
    exact this
  have hfo := zm_fol (E := E) hT ha
  refine ⟨G1, ?_, g2, g3⟩
  have g1' : fX4_come E m (Int32.ofNat h) (if znx P (hat (sh S h)) < zN P then Int32.ofNat (znx P (hat (sh S h))) else -1) G = some G1 := g1
  simp only [fX4_goOn, ↓zm_rI, ↓zm_chk, ↓zm_r0, ↓zm_r1, ↓zm_r9, ↓zm_r22, ↓zm_r23, ↓zm_r24, ↓zm_r25, ↓zm_r26, ↓zm_r27, ↓zm_r28, ↓zm_r29, ↓zm_r30, ↓zm_r31, ↓zm_r32, ↓zm_r33, ↓zm_r34, ↓zm_r36, ↓zm_r37, ↓zm_r38, ↓zm_r39, ↓zm_r43, ↓zm_r44, ↓zm_r45, ↓zm_r49, ↓zm_r50, ↓zm_r54, ↓zm_r55, ↓zm_r61, ↓zm_r62, ↓zm_r63, ↓zm_r64, ↓zm_r65, ↓zm_r66, ↓zm_r67, ↓zm_r69, ↓zm_a1, ↓zm_a2, ↓zm_a3, ↓zm_a4, ↓zm_a5, ↓zm_a6, ↓zm_a7, ↓zm_a8, ↓zm_a9, ↓zm_a10, ↓zm_a11, ↓zm_a12, ↓zm_a13, ↓zm_a14, ↓zm_a15, ↓zm_a16, ↓zm_a17, ↓zm_a18, ↓zm_a19, ↓zm_a20, ↓zm_a21, ↓zm_a22, ↓zm_a23, ↓zm_a24, ↓zm_a25, ↓zm_a26, ↓zm_a27, ↓zm_a28, ↓zm_a29, ↓zm_a30, ↓zm_a31, ↓zm_a32, ↓zm_a33, ↓zm_a34, ↓zm_a35, zMS_I, hM, o0, Option.bind_some, hfo, g1']
end Z34
