/-! THE PLAIN LAW, 38: the model's sums where only its hands' rows are known (laid by mk38.py out of parts 31 and 32) -/
set_option maxRecDepth 100000
def zMLh (P : zPr) (G : g_G) (w n : Nat) (S : zS) : Prop := n ≤ 8 ∧ ∀ h, h < n → zMH P G w h (sh S h)
section Z38
variable {P : zPr} {E : g_E} {G : g_G} {m w n : Nat} {S : zS} {o : Nat → Bool}
theorem zMLh.hd (h : zMLh P G w n S) {j : Nat} (hj : j < n) : zMH P G w j (sh S j) := h.2 j hj
theorem zMLh.fr {G1 : g_G} {X : Nat → Prop} (h : zMLh P G w n S) (f : zFr X G G1) (hX : ¬ X w) : zMLh P G1 w n S := by
  unfold zMLh zMH at h ⊢
  rw [f.I hX]
  exact h
theorem zMLh.low {G1 : g_G} (h : zMLh P G w n S) (e : ∀ j, j < 64 → gI G1 w j = gI G w j) : zMLh P G1 w n S := by
  refine ⟨h.1, fun j hj => ?_⟩
  have h8 := h.1
  obtain ⟨d1, d2, d3, d4, d5⟩ := h.2 j hj
  exact ⟨by rw [e _ (by omega)]; exact d1, by rw [e _ (by omega)]; exact d2, fun k hk => by rw [e _ (by omega)]; exact d3 k hk, by rw [e _ (by omega)]; exact d4, by rw [e _ (by omega)]; exact d5⟩
theorem zML.h (h : zML P G w n S) : zMLh P G w n S := ⟨h.1, h.2.2.1⟩
theorem zh_val {h k : Nat} (hT : zMt P E G m n o) (hL : zMLh P G (m + 15) n S) (hh : h < n) (hk : k ≤ 6) : fX4_valueOf E m (Int32.ofNat h) (Int32.ofNat k) G = some (zval k (hvr (sh S h)) (Int32.ofNat h) (Int32.ofNat n) (hfr (sh S h)), G) := by
  have hM := hT.1
  have hn := hT.2.2.2.1
  obtain ⟨d1, d2, d3, d4, d5⟩ := hL.hd hh
  unfold fX4_valueOf zval
  by_cases c : k < 4
  · rw [if_neg (show ¬ (4 : Int32) ≤ Int32.ofNat k from zi_nle (a := 4) c (by omega)), if_pos c, zm_chk hM]
    have e : (2 : Int32) + Int32.ofNat k = Int32.ofNat (2 + k) := zi_add 2 k
    rw [e, zm_own hM (by omega), Option.bind_some, d3 k c]
  · rw [if_pos (show (4 : Int32) ≤ Int32.ofNat k from zi_le (a := 4) (by omega) (by omega)), if_neg c]
    have h456 : k = 4 ∨ k = 5 ∨ k = 6 := by omega
    rcases h456 with rfl | rfl | rfl
    · rw [if_neg (show ¬ ¬ Int32.ofNat 4 = 4 by decide)]
      rfl
    · rw [if_pos (show ¬ Int32.ofNat 5 = 4 by decide), if_neg (show ¬ ¬ Int32.ofNat 5 = 5 by decide), zm_rI hM, hT.2.2.2.2.1]
      rfl
    · rw [if_pos (show ¬ Int32.ofNat 6 = 4 by decide), if_pos (show ¬ Int32.ofNat 6 = 5 by decide), zm_chk hM]
      have e6 : fX4_own E m (Int32.ofNat h) 6 G = some (gI G (m + 15) (8 * h + 6), G) := zm_own hM (k := 6) (by omega)
      rw [e6, Option.bind_some, d4]
      rfl
theorem zh_ask_b22 {h e b : Nat} {cd : Nat → Nat} {u : Int32} (hB : gB E ≤ m) (hh : h < n) (he : e < 240) (hb : b ≤ 1080) (hlt : ∀ i, i < 1080 → cd i < 100000) : ∀ F F' i (st : List Int32) (G : g_G), F < F' → i ≤ 1081 → zMt P E G m n o → zMLh P G (m + 15) n S → gI G (m + 8) e = Int32.ofNat b → (∀ i, i < 1080 → gI G (m + 5) i = Int32.ofNat (cd i)) → st.length ≤ 300 → zstk G m st → zrun cd (fun k => zval k (hvr (sh S h)) (Int32.ofNat h) (Int32.ofNat n) (hfr (sh S h))) b F i st = some [u] →
    ∃ G1, fX4_asked_b22 E F' m (Int32.ofNat h) (Int32.ofNat e) (Int32.ofNat st.length) (Int32.ofNat i) G = some (u, G1) ∧ zFr (zFs m) G G1
  | 0, F', i, st, G, _, _, _, _, _, _, _, _, hr => by cases hr
  | F + 1, F', i, st, G, hF, hi, hT, hL, hbe, hcd, hst, hs, hr => by
    obtain ⟨F', rfl⟩ := z_suc hF
    have hM := hT.1
    rw [zrun_succ] at hr
    rw [fX4_asked_b22]
    simp only [↓zm_rI, ↓zm_chk, ↓zm_r0, ↓zm_r1, ↓zm_r9, ↓zm_r22, ↓zm_r23, ↓zm_r24, ↓zm_r25, ↓zm_r26, ↓zm_r27, ↓zm_r28, ↓zm_r29, ↓zm_r30, ↓zm_r31, ↓zm_r32, ↓zm_r33, ↓zm_r34, ↓zm_r36, ↓zm_r37, ↓zm_r38, ↓zm_r39, ↓zm_r43, ↓zm_r44, ↓zm_r45, ↓zm_r49, ↓zm_r50, ↓zm_r54, ↓zm_r55, ↓zm_r61, ↓zm_r62, ↓zm_r63, ↓zm_r64, ↓zm_r65, ↓zm_r66, ↓zm_r67, ↓zm_r69, ↓zm_a1, ↓zm_a2, ↓zm_a3, ↓zm_a4, ↓zm_a5, ↓zm_a6, ↓zm_a7, ↓zm_a8, ↓zm_a9, ↓zm_a10, ↓zm_a11, ↓zm_a12, ↓zm_a13, ↓zm_a14, ↓zm_a15, ↓zm_a16, ↓zm_a17, ↓zm_a18, ↓zm_a19, ↓zm_a20, ↓zm_a21, ↓zm_a22, ↓zm_a23, ↓zm_a24, ↓zm_a25, ↓zm_a26, ↓zm_a27, ↓zm_a28, ↓zm_a29, ↓zm_a30, ↓zm_a31, ↓zm_a32, ↓zm_a33, ↓zm_a34, ↓zm_a35, zMS_I, hM, he, hbe]
    by_cases ci : b ≤ i
    · rw [if_pos ci] at hr
      cases hr
      have e0 : ∀ (α : Type) (K : Int32 → Option α), (gaI G 100 (some (m + 16)) 0).bind K = K (gI G (m + 16) 0) := fun α K => zm_a16 (i := 0) hM (by omega)
      rw [if_pos (zi_le ci (by omega)), e0, hs 0 (Nat.lt_succ_self 0)]
      exact ⟨G, rfl, zFr.refl _ _⟩
    · rw [if_neg ci] at hr
      have i2 : i < 2160 := by omega
      have hci := hlt i (by omega)
      rw [if_neg (zi_nle (by omega) (by omega))]
      simp only [↓zm_rI, ↓zm_chk, ↓zm_r0, ↓zm_r1, ↓zm_r9, ↓zm_r22, ↓zm_r23, ↓zm_r24, ↓zm_r25, ↓zm_r26, ↓zm_r27, ↓zm_r28, ↓zm_r29, ↓zm_r30, ↓zm_r31, ↓zm_r32, ↓zm_r33, ↓zm_r34, ↓zm_r36, ↓zm_r37, ↓zm_r38, ↓zm_r39, ↓zm_r43, ↓zm_r44, ↓zm_r45, ↓zm_r49, ↓zm_r50, ↓zm_r54, ↓zm_r55, ↓zm_r61, ↓zm_r62, ↓zm_r63, ↓zm_r64, ↓zm_r65, ↓zm_r66, ↓zm_r67, ↓zm_r69, ↓zm_a1, ↓zm_a2, ↓zm_a3, ↓zm_a4, ↓zm_a5, ↓zm_a6, ↓zm_a7, ↓zm_a8, ↓zm_a9, ↓zm_a10, ↓zm_a11, ↓zm_a12, ↓zm_a13, ↓zm_a14, ↓zm_a15, ↓zm_a16, ↓zm_a17, ↓zm_a18, ↓zm_a19, ↓zm_a20, ↓zm_a21, ↓zm_a22, ↓zm_a23, ↓zm_a24, ↓zm_a25, ↓zm_a26, ↓zm_a27, ↓zm_a28, ↓zm_a29, ↓zm_a30, ↓zm_a31, ↓zm_a32, ↓zm_a33, ↓zm_a34, ↓zm_a35, zMS_I, hM, i2, hcd i (by omega)]
      -- behind a push
      have push : ∀ (v : Int32) (i' : Nat), i' ≤ 1081 → st.length < 300 → zrun cd (fun k => zval k (hvr (sh S h)) (Int32.ofNat h) (Int32.ofNat n) (hfr (sh S h))) b F i' (v :: st) = some [u] →
          ∃ G1, fX4_asked_b22 E F' m (Int32.ofNat h) (Int32.ofNat e) (Int32.ofNat (st.length + 1)) (Int32.ofNat i') (gsI G (m + 16) st.length v) = some (u, G1) ∧ zFr (zFs m) G G1 := fun v i' hi' hlen hrun => by
        have f1 : zFr (zFs m) G (gsI G (m + 16) st.length v) := zFr.wI rfl
        obtain ⟨G1, g1, g2⟩ := zh_ask_b22 hB hh he hb hlt F F' i' (v :: st) (gsI G (m + 16) st.length v) (by omega) hi' (hT.fr f1 (fun a ha => by unfold zFs at ha; omega)) (hL.fr f1 (by unfold zFs; omega)) (by rw [f1.I (by unfold zFs; omega)]; exact hbe) (fun j hj => by rw [f1.I (by unfold zFs; omega)]; exact hcd j hj) hlen hs.push hrun
        exact ⟨G1, g1, f1.trans g2⟩
      by_cases c0 : cd i = 0
      · rw [if_pos c0] at hr
        rw [c0, if_neg (show ¬ ¬ Int32.ofNat 0 = 0 from fun q => q rfl)]
        by_cases hlen : st.length < 300 ∧ i + 1 < b
        · rw [if_pos hlen] at hr
          have l360 : st.length < 360 := by omega
          have i3 : i + 1 < 2160 := by omega
          obtain ⟨G1, g1, g2⟩ := push _ (i + 2) (by omega) hlen.1 hr
          refine ⟨G1, ?_, g2⟩
          simp only [↓zm_rI, ↓zm_chk, ↓zm_r0, ↓zm_r1, ↓zm_r9, ↓zm_r22, ↓zm_r23, ↓zm_r24, ↓zm_r25, ↓zm_r26, ↓zm_r27, ↓zm_r28, ↓zm_r29, ↓zm_r30, ↓zm_r31, ↓zm_r32, ↓zm_r33, ↓zm_r34, ↓zm_r36, ↓zm_r37, ↓zm_r38, ↓zm_r39, ↓zm_r43, ↓zm_r44, ↓zm_r45, ↓zm_r49, ↓zm_r50, ↓zm_r54, ↓zm_r55, ↓zm_r61, ↓zm_r62, ↓zm_r63, ↓zm_r64, ↓zm_r65, ↓zm_r66, ↓zm_r67, ↓zm_r69, ↓zm_a1, ↓zm_a2, ↓zm_a3, ↓zm_a4, ↓zm_a5, ↓zm_a6, ↓zm_a7, ↓zm_a8, ↓zm_a9, ↓zm_a10, ↓zm_a11, ↓zm_a12, ↓zm_a13, ↓zm_a14, ↓zm_a15, ↓zm_a16, ↓zm_a17, ↓zm_a18, ↓zm_a19, ↓zm_a20, ↓zm_a21, ↓zm_a22, ↓zm_a23, ↓zm_a24, ↓zm_a25, ↓zm_a26, ↓zm_a27, ↓zm_a28, ↓zm_a29, ↓zm_a30, ↓zm_a31, ↓zm_a32, ↓zm_a33, ↓zm_a34, ↓zm_a35, zMS_I, ↓zm_pI, ↓zm_pZ, ↓zm_s3, ↓zm_s4, ↓zm_s5, ↓zm_s6, ↓zm_s7, ↓zm_s8, ↓zm_s9, ↓zm_s10, ↓zm_s11, ↓zm_s12, ↓zm_s13, ↓zm_s14, ↓zm_s15, ↓zm_s16, ↓zm_s17, ↓zm_s18, ↓zm_s19, ↓zm_s20, ↓zm_s21, ↓zm_s22, ↓zm_s23, ↓zm_s24, ↓zm_s25, ↓zm_s26, ↓zm_s27, ↓zm_s28, ↓zm_s29, ↓zm_s30, ↓zm_s31, ↓zm_s32, ↓zm_s33, ↓zm_s34, ↓zm_s35, hM, hB, zi_inc, i3, hcd (i + 1) (by omega), l360, fX4_asked_b133]
          exact g1
        · rw [if_neg hlen] at hr
          cases hr
      · rw [if_neg c0] at hr
        have n0 : ¬ Int32.ofNat (cd i) = 0 := fun q => c0 (zi_inj (b := 0) (by omega) (by omega) q)
        rw [if_pos n0]
        by_cases c20 : 20 ≤ cd i
        · rw [if_pos c20] at hr
          rw [if_neg (show ¬ Int32.ofNat (cd i) < 20 from zi_nlt (b := 20) c20 (by omega))]
          by_cases hlen : st.length < 300 ∧ cd i ≤ 26
          · rw [if_pos hlen] at hr
            have l360 : st.length < 360 := by omega
            obtain ⟨G1, g1, g2⟩ := push _ (i + 1) (by omega) hlen.1 hr
            have e20 : Int32.ofNat (cd i) - 20 = Int32.ofNat (cd i - 20) := (Int32.ofNat_sub (cd i) 20 c20).symm
            refine ⟨G1, ?_, g2⟩
            simp only [↓zm_rI, ↓zm_chk, ↓zm_r0, ↓zm_r1, ↓zm_r9, ↓zm_r22, ↓zm_r23, ↓zm_r24, ↓zm_r25, ↓zm_r26, ↓zm_r27, ↓zm_r28, ↓zm_r29, ↓zm_r30, ↓zm_r31, ↓zm_r32, ↓zm_r33, ↓zm_r34, ↓zm_r36, ↓zm_r37, ↓zm_r38, ↓zm_r39, ↓zm_r43, ↓zm_r44, ↓zm_r45, ↓zm_r49, ↓zm_r50, ↓zm_r54, ↓zm_r55, ↓zm_r61, ↓zm_r62, ↓zm_r63, ↓zm_r64, ↓zm_r65, ↓zm_r66, ↓zm_r67, ↓zm_r69, ↓zm_a1, ↓zm_a2, ↓zm_a3, ↓zm_a4, ↓zm_a5, ↓zm_a6, ↓zm_a7, ↓zm_a8, ↓zm_a9, ↓zm_a10, ↓zm_a11, ↓zm_a12, ↓zm_a13, ↓zm_a14, ↓zm_a15, ↓zm_a16, ↓zm_a17, ↓zm_a18, ↓zm_a19, ↓zm_a20, ↓zm_a21, ↓zm_a22, ↓zm_a23, ↓zm_a24, ↓zm_a25, ↓zm_a26, ↓zm_a27, ↓zm_a28, ↓zm_a29, ↓zm_a30, ↓zm_a31, ↓zm_a32, ↓zm_a33, ↓zm_a34, ↓zm_a35, zMS_I, ↓zm_pI, ↓zm_pZ, ↓zm_s3, ↓zm_s4, ↓zm_s5, ↓zm_s6, ↓zm_s7, ↓zm_s8, ↓zm_s9, ↓zm_s10, ↓zm_s11, ↓zm_s12, ↓zm_s13, ↓zm_s14, ↓zm_s15, ↓zm_s16, ↓zm_s17, ↓zm_s18, ↓zm_s19, ↓zm_s20, ↓zm_s21, ↓zm_s22, ↓zm_s23, ↓zm_s24, ↓zm_s25, ↓zm_s26, ↓zm_s27, ↓zm_s28, ↓zm_s29, ↓zm_s30, ↓zm_s31, ↓zm_s32, ↓zm_s33, ↓zm_s34, ↓zm_s35, hM, hB, e20, zh_val hT hL hh (show cd i - 20 ≤ 6 by omega), Option.bind_some, l360, zi_inc, fX4_asked_b133]
            exact g1
          · rw [if_neg hlen] at hr
            cases hr
        · rw [if_neg c20] at hr
          rw [if_pos (show Int32.ofNat (cd i) < 20 from zi_lt (b := 20) (by omega) (by omega))]
          match st, hst, hs, hr with
          | y :: x :: t, hst, hs, hr =>
            have hst : t.length + 2 ≤ 300 := hst
            have hx := hs t.length (by show t.length < t.length + 2; omega)
            have hy := hs (t.length + 1) (by show t.length + 1 < t.length + 2; omega)
            have ex : (y :: x :: t).getD ((y :: x :: t).length - 1 - t.length) 0 = x := by
              show (y :: x :: t).getD (t.length + 2 - 1 - t.length) 0 = x
              rw [show t.length + 2 - 1 - t.length = 1 by omega]
              rfl
            have ey : (y :: x :: t).getD ((y :: x :: t).length - 1 - (t.length + 1)) 0 = y := by
              show (y :: x :: t).getD (t.length + 2 - 1 - (t.length + 1)) 0 = y
              rw [show t.length + 2 - 1 - (t.length + 1) = 0 by omega]
              rfl
            rw [ex] at hx
            rw [ey] at hy
            have l1 : t.length < 360 := by omega
            have l2 : t.length + 1 < 360 := by omega
            have elen : Int32.ofNat (y :: x :: t).length = Int32.ofNat (t.length + 1 + 1) := rfl
            have f1 : zFr (zFs m) G (gsI G (m + 16) t.length (ztwo (Int32.ofNat (cd i)) x y)) := zFr.wI rfl
            have hs1 : zstk (gsI G (m + 16) t.length (ztwo (Int32.ofNat (cd i)) x y)) m (ztwo (Int32.ofNat (cd i)) x y :: t) := by
              have : zstk G m t := fun j hj => by
                rw [hs j (by show j < t.length + 2; omega)]
                show (y :: x :: t).getD (t.length + 2 - 1 - j) 0 = _
                rw [show t.length + 2 - 1 - j = (t.length - 1 - j) + 1 + 1 by omega]
                rfl
              exact this.push
            obtain ⟨G1, g1, g2⟩ := zh_ask_b22 hB hh he hb hlt F F' (i + 1) (ztwo (Int32.ofNat (cd i)) x y :: t) (gsI G (m + 16) t.length (ztwo (Int32.ofNat (cd i)) x y)) (by omega) (by omega) (hT.fr f1 (fun a ha => by unfold zFs at ha; omega)) (hL.fr f1 (by unfold zFs; omega)) (by rw [f1.I (by unfold zFs; omega)]; exact hbe) (fun j hj => by rw [f1.I (by unfold zFs; omega)]; exact hcd j hj) (by show t.length + 1 ≤ 300; omega) hs1 hr
            refine ⟨G1, ?_, f1.trans g2⟩
            simp only [↓zm_rI, ↓zm_chk, ↓zm_r0, ↓zm_r1, ↓zm_r9, ↓zm_r22, ↓zm_r23, ↓zm_r24, ↓zm_r25, ↓zm_r26, ↓zm_r27, ↓zm_r28, ↓zm_r29, ↓zm_r30, ↓zm_r31, ↓zm_r32, ↓zm_r33, ↓zm_r34, ↓zm_r36, ↓zm_r37, ↓zm_r38, ↓zm_r39, ↓zm_r43, ↓zm_r44, ↓zm_r45, ↓zm_r49, ↓zm_r50, ↓zm_r54, ↓zm_r55, ↓zm_r61, ↓zm_r62, ↓zm_r63, ↓zm_r64, ↓zm_r65, ↓zm_r66, ↓zm_r67, ↓zm_r69, ↓zm_a1, ↓zm_a2, ↓zm_a3, ↓zm_a4, ↓zm_a5, ↓zm_a6, ↓zm_a7, ↓zm_a8, ↓zm_a9, ↓zm_a10, ↓zm_a11, ↓zm_a12, ↓zm_a13, ↓zm_a14, ↓zm_a15, ↓zm_a16, ↓zm_a17, ↓zm_a18, ↓zm_a19, ↓zm_a20, ↓zm_a21, ↓zm_a22, ↓zm_a23, ↓zm_a24, ↓zm_a25, ↓zm_a26, ↓zm_a27, ↓zm_a28, ↓zm_a29, ↓zm_a30, ↓zm_a31, ↓zm_a32, ↓zm_a33, ↓zm_a34, ↓zm_a35, zMS_I, ↓zm_pI, ↓zm_pZ, ↓zm_s3, ↓zm_s4, ↓zm_s5, ↓zm_s6, ↓zm_s7, ↓zm_s8, ↓zm_s9, ↓zm_s10, ↓zm_s11, ↓zm_s12, ↓zm_s13, ↓zm_s14, ↓zm_s15, ↓zm_s16, ↓zm_s17, ↓zm_s18, ↓zm_s19, ↓zm_s20, ↓zm_s21, ↓zm_s22, ↓zm_s23, ↓zm_s24, ↓zm_s25, ↓zm_s26, ↓zm_s27, ↓zm_s28, ↓zm_s29, ↓zm_s30, ↓zm_s31, ↓zm_s32, ↓zm_s33, ↓zm_s34, ↓zm_s35, hM, hB, elen, zi_dec2, zi_dec, l1, l2, hx, hy, zm_two, Option.bind_some, fX4_asked_b133, zi_inc]
            exact g1
theorem zh_ask {h k : Nat} (hT : zMt P E G m n o) (hL : zMLh P G (m + 15) n S) (hh : h < n) (ha : hat (sh S h) < zN P) (hk : k < 3) (hv : zhs' (zkd P (hat (sh S h))) k) :
    ∃ G1, fX4_asked E m (Int32.ofNat h) (Int32.ofNat k) G = some (zev P n h (sh S h) (hat (sh S h)) k, G1) ∧ zFr (zFs m) G G1 := by
  have hM := hT.1
  have hP := hT.2.1.1
  have hN := hP.1
  have hn := hT.2.2.2.1
  obtain ⟨cd, hcd, hex⟩ := hT.2.1.2.2.2.2.2
  obtain ⟨a, b, ea, eb, c1, c2, c3, c4⟩ := hex _ ha k hk hv
  have e240 : 3 * hat (sh S h) + k < 240 := by omega
  have o0 : fX4_own E m (Int32.ofNat h) 0 G = some (Int32.ofNat (hat (sh S h)), G) := by
    have := zm_own (E := E) (h := h) (k := 0) hM (by omega)
    have d1 := (hL.hd hh).1
    unfold zat at d1
    rw [if_pos ha] at d1
    rw [← d1]
    exact this
  obtain ⟨G1, g1, g2⟩ := zh_ask_b22 (E := E) (e := 3 * hat (sh S h) + k) (u := zev P n h (sh S h) (hat (sh S h)) k) hT.2.2.1 hh e240 c2 c3 1081 gFU a [] G (z_F _ (by omega)) (by omega) hT hL eb hcd (by decide) (fun j hj => absurd hj (Nat.not_lt_zero j)) (c4 _ _ _ _)
  refine ⟨G1, ?_, g2⟩
  simp only [fX4_asked, ↓zm_rI, ↓zm_chk, ↓zm_r0, ↓zm_r1, ↓zm_r9, ↓zm_r22, ↓zm_r23, ↓zm_r24, ↓zm_r25, ↓zm_r26, ↓zm_r27, ↓zm_r28, ↓zm_r29, ↓zm_r30, ↓zm_r31, ↓zm_r32, ↓zm_r33, ↓zm_r34, ↓zm_r36, ↓zm_r37, ↓zm_r38, ↓zm_r39, ↓zm_r43, ↓zm_r44, ↓zm_r45, ↓zm_r49, ↓zm_r50, ↓zm_r54, ↓zm_r55, ↓zm_r61, ↓zm_r62, ↓zm_r63, ↓zm_r64, ↓zm_r65, ↓zm_r66, ↓zm_r67, ↓zm_r69, ↓zm_a1, ↓zm_a2, ↓zm_a3, ↓zm_a4, ↓zm_a5, ↓zm_a6, ↓zm_a7, ↓zm_a8, ↓zm_a9, ↓zm_a10, ↓zm_a11, ↓zm_a12, ↓zm_a13, ↓zm_a14, ↓zm_a15, ↓zm_a16, ↓zm_a17, ↓zm_a18, ↓zm_a19, ↓zm_a20, ↓zm_a21, ↓zm_a22, ↓zm_a23, ↓zm_a24, ↓zm_a25, ↓zm_a26, ↓zm_a27, ↓zm_a28, ↓zm_a29, ↓zm_a30, ↓zm_a31, ↓zm_a32, ↓zm_a33, ↓zm_a34, ↓zm_a35, zMS_I, hM, o0, Option.bind_some, zi_3, e240, ea]
  exact g1
end Z38
