/-! THE PLAIN LAW, 32: the model's sums; what comes behind a step -/
set_option maxRecDepth 100000
def zstk (G : g_G) (m : Nat) (st : List Int32) : Prop := ∀ j, j < st.length → gI G (m + 16) j = st.getD (st.length - 1 - j) 0
def zFs (m a : Nat) : Prop := a = m + 16
section Z32
variable {P : zPr} {E : g_E} {G : g_G} {m w n : Nat} {S : zS} {o : Nat → Bool}
theorem zstk.push {st : List Int32} {v : Int32} (h : zstk G m st) : zstk (gsI G (m + 16) st.length v) m (v :: st) := fun j hj => by
  rw [zq_II]
  have hj : j < st.length + 1 := hj
  show _ = (v :: st).getD (st.length + 1 - 1 - j) 0
  by_cases c : j = st.length
  · subst c
    rw [if_pos ⟨rfl, rfl⟩, show st.length + 1 - 1 - st.length = 0 by omega]
    rfl
  · rw [if_neg (fun q => c q.2), h j (by omega), show st.length + 1 - 1 - j = (st.length - 1 - j) + 1 by omega]
    rfl
theorem zrun_succ (cd : Nat → Nat) (vl : Nat → Int32) (b F i : Nat) (st : List Int32) : zrun cd vl b (F + 1) i st = if b ≤ i then some st
    else if cd i = 0 then (if st.length < 300 ∧ i + 1 < b then zrun cd vl b F (i + 2) (Int32.ofNat (cd (i + 1)) :: st) else none)
    else if 20 ≤ cd i then (if st.length < 300 ∧ cd i ≤ 26 then zrun cd vl b F (i + 1) (vl (cd i - 20) :: st) else none)
    else match st with
      | y :: x :: t => zrun cd vl b F (i + 1) (ztwo (Int32.ofNat (cd i)) x y :: t)
      | _ => none := rfl
theorem zm_ask_b22 {h e b : Nat} {cd : Nat → Nat} {u : Int32} (hB : gB E ≤ m) (hh : h < n) (he : e < 240) (hb : b ≤ 1080) (hlt : ∀ i, i < 1080 → cd i < 100000) : ∀ F F' i (st : List Int32) (G : g_G), F < F' → i ≤ 1081 → zMt P E G m n o → zML P G (m + 15) n S → gI G (m + 8) e = Int32.ofNat b → (∀ i, i < 1080 → gI G (m + 5) i = Int32.ofNat (cd i)) → st.length ≤ 300 → zstk G m st → zrun cd (fun k => zval k (hvr (sh S h)) (Int32.ofNat h) (Int32.ofNat n) (hfr (sh S h))) b F i st = some [u] →
    ∃ G1, fX4_asked_b22 E F' m (Int32.ofNat h) (Int32.ofNat e) (Int32.ofNat st.length) (Int32.ofNat i) G = some (u, G1) ∧ zFr (zFs m) G G1
  | 0, F', i, st, G, _, _, _, _, _, _, _, _, hr => by cases hr
  | F + 1, F', i, st, G, hF, hi, hT, hL, hbe, hcd, hst, hs, hr => by
    obtain ⟨F', rfl⟩ := z_suc hF
    have hM := hT.1
    rw [zrun_succ] at hr
    rw [fX4_asked_b22]
    simp only [↓zm_rI, ↓zm_chk, ↓zm_r0, ↓zm_r1, ↓zm_r9, ↓zm_r22, ↓zm_r23, ↓zm_r24, ↓zm_r25, ↓zm_r26, ↓zm_r27, ↓zm_r28, ↓zm_r29, ↓zm_r30, ↓zm_r31, ↓zm_r32, ↓zm_r33, ↓zm_r34, ↓zm_r36, ↓zm_r37, ↓zm_r38, ↓zm_r39, ↓zm_r43, ↓zm_r44, ↓zm_r45, ↓zm_r49, ↓zm_r50, ↓zm_r54, ↓zm_r55, ↓zm_r61, ↓zm_r62, ↓zm_r63, ↓zm_r64, ↓zm_r65, ↓zm_r66, ↓zm_r67, ↓zm_r69, ↓zm_a1, ↓zm_a2, ↓zm_a3, ↓zm_a4, ↓zm_a5, ↓zm_a6, ↓zm_a7, ↓zm_a8, ↓zm_a9, ↓zm_a10, ↓zm_a11, ↓zm_a12, ↓zm_a13, ↓zm_a14, ↓zm_a15, ↓zm_a16, ↓zm_a17, ↓zm_a18, ↓zm_a19, ↓zm_a20, ↓zm_a21, ↓zm_a22, ↓zm_a23, ↓zm_a24, ↓zm_a25, ↓zm_a26, ↓zm_a27, ↓zm_a28, ↓zm_a29, ↓zm_a30, ↓zm_a31, ↓zm_a32, ↓zm_a33, ↓zm_a34, ↓zm_a35, zMS_I, hM, he, hbe]
    by_cases ci : b ≤ i
    · rw [if_pos ci] at hr
      cases hr
      have e0 : ∀ (α : Type) (K : Int32 → Option α), (gaI G 100 (some (m + 16)) 0).bind K = K (gI G (m + 16) 0) := fun α K => zm_a16 (i := 0) hM (by omega)
      rw [if_pos (zi_le ci (by omega)), e0, hs 0 (Nat.lt_succ_self 0)]
      exact ⟨G, rfl, zFr.refl _ _⟩
    · rw [if_neg ci] at hr
      have i2 : i < 2160 := by omega
      have hci := hlt i (by omega)
      rw [if_neg (zi_nle (by omega) (by omega))]
      simp only [↓zm_rI, ↓zm_chk, ↓zm_r0, ↓zm_r1, ↓zm_r9, ↓zm_r22, ↓zm_r23, ↓zm_r24, ↓zm_r25, ↓zm_r26, ↓zm_r27, ↓zm_r28, ↓zm_r29, ↓zm_r30, ↓zm_r31, ↓zm_r32, ↓zm_r33, ↓zm_r34, ↓zm_r36, ↓zm_r37, ↓zm_r38, ↓zm_r39, ↓zm_r43, ↓zm_r44, ↓zm_r45, ↓zm_r49, ↓zm_r50, ↓zm_r54, ↓zm_r55, ↓zm_r61, ↓zm_r62, ↓zm_r63, ↓zm_r64, ↓zm_r65, ↓zm_r66, ↓zm_r67, ↓zm_r69, ↓zm_a1, ↓zm_a2, ↓zm_a3, ↓zm_a4, ↓zm_a5, ↓zm_a6, ↓zm_a7, ↓zm_a8, ↓zm_a9, ↓zm_a10, ↓zm_a11, ↓zm_a12, ↓zm_a13, ↓zm_a14, ↓zm_a15, ↓zm_a16, ↓zm_a17, ↓zm_a18, ↓zm_a19, ↓zm_a20, ↓zm_a21, ↓zm_a22, ↓zm_a23, ↓zm_a24, ↓zm_a25, ↓zm_a26, ↓zm_a27, ↓zm_a28, ↓zm_a29, ↓zm_a30, ↓zm_a31, ↓zm_a32, ↓zm_a33, ↓zm_a34, ↓zm_a35, zMS_I, hM, i2, hcd i (by omega)]
      -- behind a push
      have push : ∀ (v : Int32) (i' : Nat), i' ≤ 1081 → st.length < 300 → zrun cd (fun k => zval k (hvr (sh S h)) (Int32.ofNat h) (Int32.ofNat n) (hfr (sh S h))) b F i' (v :: st) = some [u] →
          ∃ G1, fX4_asked_b22 E F' m (Int32.ofNat h) (Int32.ofNat e) (Int32.ofNat (st.length + 1)) (Int32.ofNat i') (gsI G (m + 16) st.length v) = some (u, G1) ∧ zFr (zFs m) G G1 := fun v i' hi' hlen hrun => by
        have f1 : zFr (zFs m) G (gsI G (m + 16) st.length v) := zFr.wI rfl
        obtain ⟨G1, g1, g2⟩ := zm_ask_b22 hB hh he hb hlt F F' i' (v :: st) (gsI G (m + 16) st.length v) (by omega) hi' (hT.fr f1 (fun a ha => by unfold zFs at ha; omega)) (hL.fr f1 (by unfold zFs; omega)) (by rw [f1.I (by unfold zFs; omega)]; exact hbe) (fun j hj => by rw [f1.I (by unfold zFs; omega)]; exact hcd j hj) hlen hs.push hrun
        exact ⟨G1, g1, f1.trans g2⟩
      by_cases c0 : cd i = 0
      · rw [if_pos c0] at hr
        rw [c0, if_neg (show ¬ ¬ Int32.ofNat 0 = 0 from fun q => q rfl)]
        by_cases hlen : st.length < 300 ∧ i + 1 < b
        · rw [if_pos hlen] at hr
          have l360 : st.length < 360 := by omega
          have i3 : i + 1 < 2160 := by omega
          obtain ⟨G1, g1, g2⟩ := push _ (i + 2) (by omega) hlen.1 hr
          refine ⟨G1, ?_, g2⟩
          simp only [↓zm_rI, ↓zm_chk, ↓zm_r0, ↓zm_r1, ↓zm_r9, ↓zm_r22, ↓zm_r23, ↓zm_r24, ↓zm_r25, ↓zm_r26, ↓zm_r27, ↓zm_r28, ↓zm_r29, ↓zm_r30, ↓zm_r31, ↓zm_r32, ↓zm_r33, ↓zm_r34, ↓zm_r36, ↓zm_r37, ↓zm_r38, ↓zm_r39, ↓zm_r43, ↓zm_r44, ↓zm_r45, ↓zm_r49, ↓zm_r50, ↓zm_r54, ↓zm_r55, ↓zm_r61, ↓zm_r62, ↓zm_r63, ↓zm_r64, ↓zm_r65, ↓zm_r66, ↓zm_r67, ↓zm_r69, ↓zm_a1, ↓zm_a2, ↓zm_a3, ↓zm_a4, ↓zm_a5, ↓zm_a6, ↓zm_a7, ↓zm_a8, ↓zm_a9, ↓zm_a10, ↓zm_a11, ↓zm_a12, ↓zm_a13, ↓zm_a14, ↓zm_a15, ↓zm_a16, ↓zm_a17, ↓zm_a18, ↓zm_a19, ↓zm_a20, ↓zm_a21, ↓zm_a22, ↓zm_a23, ↓zm_a24, ↓zm_a25, ↓zm_a26, ↓zm_a27, ↓zm_a28, ↓zm_a29, ↓zm_a30, ↓zm_a31, ↓zm_a32, ↓zm_a33, ↓zm_a34, ↓zm_a35, zMS_I, ↓zm_pI, ↓zm_pZ, ↓zm_s3, ↓zm_s4, ↓zm_s5, ↓zm_s6, ↓zm_s7, ↓zm_s8, ↓zm_s9, ↓zm_s10, ↓zm_s11, ↓zm_s12, ↓zm_s13, ↓zm_s14, ↓zm_s15, ↓zm_s16, ↓zm_s17, ↓zm_s18, ↓zm_s19, ↓zm_s20, ↓zm_s21, ↓zm_s22, ↓zm_s23, ↓zm_s24, ↓zm_s25, ↓zm_s26, ↓zm_s27, ↓zm_s28, ↓zm_s29, ↓zm_s30, ↓zm_s31, ↓zm_s32, ↓zm_s33, ↓zm_s34, ↓zm_s35, hM, hB, zi_inc, i3, hcd (i + 1) (by omega), l360, fX4_asked_b133]
          exact g1
        · rw [if_neg hlen] at hr
          cases hr
      · rw [if_neg c0] at hr
        have n0 : ¬ Int32.ofNat (cd i) = 0 := fun q => c0 (zi_inj (b := 0) (by omega) (by omega) q)
        rw [if_pos n0]
        by_cases c20 : 20 ≤ cd i
        · rw [if_pos c20] at hr
          rw [if_neg (show ¬ Int32.ofNat (cd i) < 20 from zi_nlt (b := 20) c20 (by omega))]
          by_cases hlen : st.length < 300 ∧ cd i ≤ 26
          · rw [if_pos hlen] at hr
            have l360 : st.length < 360 := by omega
            obtain ⟨G1, g1, g2⟩ := push _ (i + 1) (by omega) hlen.1 hr
            have e20 : Int32.ofNat (cd i) - 20 = Int32.ofNat (cd i - 20) := (Int32.ofNat_sub (cd i) 20 c20).symm
            refine ⟨G1, ?_, g2⟩
            simp only [↓zm_rI, ↓zm_chk, ↓zm_r0, ↓zm_r1, ↓zm_r9, ↓zm_r22, ↓zm_r23, ↓zm_r24, ↓zm_r25, ↓zm_r26, ↓zm_r27, ↓zm_r28, ↓zm_r29, ↓zm_r30, ↓zm_r31, ↓zm_r32, ↓zm_r33, ↓zm_r34, ↓zm_r36, ↓zm_r37, ↓zm_r38, ↓zm_r39, ↓zm_r43, ↓zm_r44, ↓zm_r45, ↓zm_r49, ↓zm_r50, ↓zm_r54, ↓zm_r55, ↓zm_r61, ↓zm_r62, ↓zm_r63, ↓zm_r64, ↓zm_r65, ↓zm_r66, ↓zm_r67, ↓zm_r69, ↓zm_a1, ↓zm_a2, ↓zm_a3, ↓zm_a4, ↓zm_a5, ↓zm_a6, ↓zm_a7, ↓zm_a8, ↓zm_a9, ↓zm_a10, ↓zm_a11, ↓zm_a12, ↓zm_a13, ↓zm_a14, ↓zm_a15, ↓zm_a16, ↓zm_a17, ↓zm_a18, ↓zm_a19, ↓zm_a20, ↓zm_a21, ↓zm_a22, ↓zm_a23, ↓zm_a24, ↓zm_a25, ↓zm_a26, ↓zm_a27, ↓zm_a28, ↓zm_a29, ↓zm_a30, ↓zm_a31, ↓zm_a32, ↓zm_a33, ↓zm_a34, ↓zm_a35, zMS_I, ↓zm_pI, ↓zm_pZ, ↓zm_s3, ↓zm_s4, ↓zm_s5, ↓zm_s6, ↓zm_s7, ↓zm_s8, ↓zm_s9, ↓zm_s10, ↓zm_s11, ↓zm_s12, ↓zm_s13, ↓zm_s14, ↓zm_s15, ↓zm_s16, ↓zm_s17, ↓zm_s18, ↓zm_s19, ↓zm_s20, ↓zm_s21, ↓zm_s22, ↓zm_s23, ↓zm_s24, ↓zm_s25, ↓zm_s26, ↓zm_s27, ↓zm_s28, ↓zm_s29, ↓zm_s30, ↓zm_s31, ↓zm_s32, ↓zm_s33, ↓zm_s34, ↓zm_s35, hM, hB, e20, zm_val hT hL hh (show cd i - 20 ≤ 6 by omega), Option.bind_some, l360, zi_inc, fX4_asked_b133]
            exact g1
          · rw [if_neg hlen] at hr
            cases hr
        · rw [if_neg c20] at hr
          rw [if_pos (show Int32.ofNat (cd i) < 20 from zi_lt (b := 20) (by omega) (by omega))]
          match st, hst, hs, hr with
          | y :: x :: t, hst, hs, hr =>
            have hst : t.length + 2 ≤ 300 := hst
            have hx := hs t.length (by show t.length < t.length + 2; omega)
            have hy := hs (t.length + 1) (by show t.length + 1 < t.length + 2; omega)
            have ex : (y :: x :: t).getD ((y :: x :: t).length - 1 - t.length) 0 = x := by
              show (y :: x :: t).getD (t.length + 2 - 1 - t.length) 0 = x
              rw [show t.length + 2 - 1 - t.length = 1 by omega]
              rfl
            have ey : (y :: x :: t).getD ((y :: x :: t).length - 1 - (t.length + 1)) 0 = y := by
              show (y :: x :: t).getD (t.length + 2 - 1 - (t.length + 1)) 0 = y
              rw [show t.length + 2 - 1 - (t.length + 1) = 0 by omega]
              rfl
            rw [ex] at hx
            rw [ey] at hy
            have l1 : t.length < 360 := by omega
            have l2 : t.length + 1 < 360 := by omega
            have elen : Int32.ofNat (y :: x :: t).length = Int32.ofNat (t.length + 1 + 1) := rfl
            have f1 : zFr (zFs m) G (gsI G (m + 16) t.length (ztwo (Int32.ofNat (cd i)) x y)) := zFr.wI rfl
            have hs1 : zstk (gsI G (m + 16) t.length (ztwo (Int32.ofNat (cd i)) x y)) m (ztwo (Int32.ofNat (cd i)) x y :: t) := by
              have : zstk G m t := fun j hj => by
                rw [hs j (by show j < t.length + 2; omega)]
                show (y :: x :: t).getD (t.length + 2 - 1 - j) 0 = _
                rw [show t.length + 2 - 1 - j = (t.length - 1 - j) + 1 + 1 by omega]
                rfl
              exact this.push
            obtain ⟨G1, g1, g2⟩ := zm_ask_b22 hB hh he hb hlt F F' (i + 1) (ztwo (Int32.ofNat (cd i)) x y :: t) (gsI G (m + 16) t.length (ztwo (Int32.ofNat (cd i)) x y)) (by omega) (by omega) (hT.fr f1 (fun a ha => by unfold zFs at ha; omega)) (hL.fr f1 (by unfold zFs; omega)) (by rw [f1.I (by unfold zFs; omega)]; exact hbe) (fun j hj => by rw [f1.I (by unfold zFs; omega)]; exact hcd j hj) (by show t.length + 1 ≤ 300; omega) hs1 hr
            refine ⟨G1, ?_, f1.trans g2⟩
            simp only [↓zm_rI, ↓zm_chk, ↓zm_r0, ↓zm_r1, ↓zm_r9, ↓zm_r22, ↓zm_r23, ↓zm_r24, ↓zm_r25, ↓zm_r26, ↓zm_r27, ↓zm_r28, ↓zm_r29, ↓zm_r30, ↓zm_r31, ↓zm_r32, ↓zm_r33, ↓zm_r34, ↓zm_r36, ↓zm_r37, ↓zm_r38, ↓zm_r39, ↓zm_r43, ↓zm_r44, ↓zm_r45, ↓zm_r49, ↓zm_r50, ↓zm_r54, ↓zm_r55, ↓zm_r61, ↓zm_r62, ↓zm_r63, ↓zm_r64, ↓zm_r65, ↓zm_r66, ↓zm_r67, ↓zm_r69, ↓zm_a1, ↓zm_a2, ↓zm_a3, ↓zm_a4, ↓zm_a5, ↓zm_a6, ↓zm_a7, ↓zm_a8, ↓zm_a9, ↓zm_a10, ↓zm_a11, ↓zm_a12, ↓zm_a13, ↓zm_a14, ↓zm_a15, ↓zm_a16, ↓zm_a17, ↓zm_a18, ↓zm_a19, ↓zm_a20, ↓zm_a21, ↓zm_a22, ↓zm_a23, ↓zm_a24, ↓zm_a25, ↓zm_a26, ↓zm_a27, ↓zm_a28, ↓zm_a29, ↓zm_a30, ↓zm_a31, ↓zm_a32, ↓zm_a33, ↓zm_a34, ↓zm_a35, zMS_I, ↓zm_pI, ↓zm_pZ, ↓zm_s3, ↓zm_s4, ↓zm_s5, ↓zm_s6, ↓zm_s7, ↓zm_s8, ↓zm_s9, ↓zm_s10, ↓zm_s11, ↓zm_s12, ↓zm_s13, ↓zm_s14, ↓zm_s15, ↓zm_s16, ↓zm_s17, ↓zm_s18, ↓zm_s19, ↓zm_s20, ↓zm_s21, ↓zm_s22, ↓zm_s23, ↓zm_s24, ↓zm_s25, ↓zm_s26, ↓zm_s27, ↓zm_s28, ↓zm_s29, ↓zm_s30, ↓zm_s31, ↓zm_s32, ↓zm_s33, ↓zm_s34, ↓zm_s35, hM, hB, elen, zi_dec2, zi_dec, l1, l2, hx, hy, zm_two, Option.bind_some, fX4_asked_b133, zi_inc]
            exact g1
theorem zi_3 (h k : Nat) : 3 * Int32.ofNat h + Int32.ofNat k = Int32.ofNat (3 * h + k) := by rw [Int32.ofNat_add, Int32.ofNat_mul]; rfl
/-- which sums a step of a kind has -/
def zhs' (kd k : Nat) : Prop := k = 0 ∧ (kd ≤ 3 ∨ kd = 7 ∨ (8 ≤ kd ∧ kd ≤ 10)) ∨ k = 1 ∧ kd ≤ 4 ∨ k = 2 ∧ kd ≤ 2
theorem zm_ask {h k : Nat} (hT : zMt P E G m n o) (hL : zML P G (m + 15) n S) (hh : h < n) (ha : hat (sh S h) < zN P) (hk : k < 3) (hv : zhs' (zkd P (hat (sh S h))) k) :
    ∃ G1, fX4_asked E m (Int32.ofNat h) (Int32.ofNat k) G = some (zev P n h (sh S h) (hat (sh S h)) k, G1) ∧ zFr (zFs m) G G1 := by
  have hM := hT.1
  have hP := hT.2.1.1
  have hN := hP.1
  have hn := hT.2.2.2.1
  obtain ⟨cd, hcd, hex⟩ := hT.2.1.2.2.2.2.2
  obtain ⟨a, b, ea, eb, c1, c2, c3, c4⟩ := hex _ ha k hk hv
  have e240 : 3 * hat (sh S h) + k < 240 := by omega
  have o0 : fX4_own E m (Int32.ofNat h) 0 G = some (Int32.ofNat (hat (sh S h)), G) := by
    have := zm_own (E := E) (h := h) (k := 0) hM (by omega)
    have d1 := (hL.hd hh).1
    unfold zat at d1
    rw [if_pos ha] at d1
    rw [← d1]
    exact this
  obtain ⟨G1, g1, g2⟩ := zm_ask_b22 (E := E) (e := 3 * hat (sh S h) + k) (u := zev P n h (sh S h) (hat (sh S h)) k) hT.2.2.1 hh e240 c2 c3 1081 gFU a [] G (z_F _ (by omega)) (by omega) hT hL eb hcd (by decide) (fun j hj => absurd hj (Nat.not_lt_zero j)) (c4 _ _ _ _)
  refine ⟨G1, ?_, g2⟩
  simp only [fX4_asked, ↓zm_rI, ↓zm_chk, ↓zm_r0, ↓zm_r1, ↓zm_r9, ↓zm_r22, ↓zm_r23, ↓zm_r24, ↓zm_r25, ↓zm_r26, ↓zm_r27, ↓zm_r28, ↓zm_r29, ↓zm_r30, ↓zm_r31, ↓zm_r32, ↓zm_r33, ↓zm_r34, ↓zm_r36, ↓zm_r37, ↓zm_r38, ↓zm_r39, ↓zm_r43, ↓zm_r44, ↓zm_r45, ↓zm_r49, ↓zm_r50, ↓zm_r54, ↓zm_r55, ↓zm_r61, ↓zm_r62, ↓zm_r63, ↓zm_r64, ↓zm_r65, ↓zm_r66, ↓zm_r67, ↓zm_r69, ↓zm_a1, ↓zm_a2, ↓zm_a3, ↓zm_a4, ↓zm_a5, ↓zm_a6, ↓zm_a7, ↓zm_a8, ↓zm_a9, ↓zm_a10, ↓zm_a11, ↓zm_a12, ↓zm_a13, ↓zm_a14, ↓zm_a15, ↓zm_a16, ↓zm_a17, ↓zm_a18, ↓zm_a19, ↓zm_a20, ↓zm_a21, ↓zm_a22, ↓zm_a23, ↓zm_a24, ↓zm_a25, ↓zm_a26, ↓zm_a27, ↓zm_a28, ↓zm_a29, ↓zm_a30, ↓zm_a31, ↓zm_a32, ↓zm_a33, ↓zm_a34, ↓zm_a35, zMS_I, hM, o0, Option.bind_some, zi_3, e240, ea]
  exact g1
/-! what comes behind a step -/
theorem zm_fol_b7 (hT : zMt P E G m n o) : ∀ s F, s < zN P → s < F → fX4_following_b7 E F m (gI G (m + 11) s) G = some (if znx P s < zN P then Int32.ofNat (znx P s) else -1, G) := by
  intro s
  induction s using Nat.strongRecOn with
  | ind s ih =>
    intro F hs hF
    obtain ⟨F, rfl⟩ := z_suc hF
    have hM := hT.1
    have hP := hT.2.1.1
    have hN := hP.1
    have hf := hT.2.1.2.2.2.1
    have n2 : ∀ t : Nat, t < 100 → (-2 : Int32) < Int32.ofNat t := by decide
    rw [fX4_following_b7]
    rcases hf s hs with ⟨t, h1, h2, h3⟩ | ⟨h2, h3⟩ | ⟨t, h1, h2, h3⟩
    · rw [h2, if_pos (n2 t (by omega)), h3, if_pos h1]
    · rw [h2, if_pos (by decide), h3, if_neg (by omega)]
    · have nn : ∀ t : Nat, t < 40 → ¬ (-2 : Int32) < -2 - Int32.ofNat t := by decide
      have ns : ∀ t : Nat, t < 40 → (-2 : Int32) - (-2 - Int32.ofNat t) = Int32.ofNat t := by decide
      have t80 : t < 80 := by omega
      rw [h2, if_neg (nn t (by omega)), ns t (by omega)]
      simp only [↓zm_rI, ↓zm_chk, ↓zm_r0, ↓zm_r1, ↓zm_r9, ↓zm_r22, ↓zm_r23, ↓zm_r24, ↓zm_r25, ↓zm_r26, ↓zm_r27, ↓zm_r28, ↓zm_r29, ↓zm_r30, ↓zm_r31, ↓zm_r32, ↓zm_r33, ↓zm_r34, ↓zm_r36, ↓zm_r37, ↓zm_r38, ↓zm_r39, ↓zm_r43, ↓zm_r44, ↓zm_r45, ↓zm_r49, ↓zm_r50, ↓zm_r54, ↓zm_r55, ↓zm_r61, ↓zm_r62, ↓zm_r63, ↓zm_r64, ↓zm_r65, ↓zm_r66, ↓zm_r67, ↓zm_r69, ↓zm_a1, ↓zm_a2, ↓zm_a3, ↓zm_a4, ↓zm_a5, ↓zm_a6, ↓zm_a7, ↓zm_a8, ↓zm_a9, ↓zm_a10, ↓zm_a11, ↓zm_a12, ↓zm_a13, ↓zm_a14, ↓zm_a15, ↓zm_a16, ↓zm_a17, ↓zm_a18, ↓zm_a19, ↓zm_a20, ↓zm_a21, ↓zm_a22, ↓zm_a23, ↓zm_a24, ↓zm_a25, ↓zm_a26, ↓zm_a27, ↓zm_a28, ↓zm_a29, ↓zm_a30, ↓zm_a31, ↓zm_a32, ↓zm_a33, ↓zm_a34, ↓zm_a35, zMS_I, hM, t80]
      rw [h3]
      exact ih t h1 F (by omega) (by omega)
theorem zm_fol {s : Nat} (hT : zMt P E G m n o) (hs : s < zN P) : fX4_following E m (Int32.ofNat s) G = some (if znx P s < zN P then Int32.ofNat (znx P s) else -1, G) := by
  have hM := hT.1
  have hN := hT.2.1.1.1
  have s80 : s < 80 := by omega
  simp only [fX4_following, ↓zm_rI, ↓zm_chk, ↓zm_r0, ↓zm_r1, ↓zm_r9, ↓zm_r22, ↓zm_r23, ↓zm_r24, ↓zm_r25, ↓zm_r26, ↓zm_r27, ↓zm_r28, ↓zm_r29, ↓zm_r30, ↓zm_r31, ↓zm_r32, ↓zm_r33, ↓zm_r34, ↓zm_r36, ↓zm_r37, ↓zm_r38, ↓zm_r39, ↓zm_r43, ↓zm_r44, ↓zm_r45, ↓zm_r49, ↓zm_r50, ↓zm_r54, ↓zm_r55, ↓zm_r61, ↓zm_r62, ↓zm_r63, ↓zm_r64, ↓zm_r65, ↓zm_r66, ↓zm_r67, ↓zm_r69, ↓zm_a1, ↓zm_a2, ↓zm_a3, ↓zm_a4, ↓zm_a5, ↓zm_a6, ↓zm_a7, ↓zm_a8, ↓zm_a9, ↓zm_a10, ↓zm_a11, ↓zm_a12, ↓zm_a13, ↓zm_a14, ↓zm_a15, ↓zm_a16, ↓zm_a17, ↓zm_a18, ↓zm_a19, ↓zm_a20, ↓zm_a21, ↓zm_a22, ↓zm_a23, ↓zm_a24, ↓zm_a25, ↓zm_a26, ↓zm_a27, ↓zm_a28, ↓zm_a29, ↓zm_a30, ↓zm_a31, ↓zm_a32, ↓zm_a33, ↓zm_a34, ↓zm_a35, zMS_I, hM, s80]
  exact zm_fol_b7 hT s gFU hs (z_F _ (by omega))
end Z32
