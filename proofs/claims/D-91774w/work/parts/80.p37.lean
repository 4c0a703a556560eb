/-! THE PLAIN LAW, 37: what the model does with its words -/
set_option maxRecDepth 100000
def zFm (m a : Nat) : Prop := a = m + 15 ∨ a = m + 20
/-- words were moved about -/
def zMx (m : Nat) (G G1 : g_G) (f : Nat → Nat) : Prop := zFr (zFm m) G G1 ∧ (∀ j, j < 65 → gI G1 (m + 15) j = gI G (m + 15) j) ∧ (∀ k i, i < 6 → gI G1 (m + 15) (65 + 6 * k + i) = gI G (m + 15) (65 + 6 * f k + i)) ∧ ∀ k, gI G1 (m + 20) k = gI G (m + 20) (f k)
section Z37
variable {P : zPr} {E : g_E} {G G1 : g_G} {m w n r : Nat} {S : zS} {o : Nat → Bool} {f : Nat → Nat} {T : Nat → Int32}
theorem zMx.congr {g : Nat → Nat} (h : zMx m G G1 f) (e : ∀ k, f k = g k) : zMx m G G1 g := ⟨h.1, h.2.1, fun k i hi => by rw [h.2.2.1 k i hi, e], fun k => by rw [h.2.2.2 k, e]⟩
theorem zMx.ms (h : zMx m G G1 f) (hM : zMS G m) : zMS G1 m := hM.fr h.1 (h.1.R (by unfold zFm; omega))
/-- one word is copied to another's place, cell by cell -/
theorem zm_shift (hB : gB E ≤ m) {a b : Nat} (ha : a < 320) (hb : b < 320) (K : Nat → Int32 → Int32 → Int32 → Int32 → g_G → Option g_G) {v1 v2 v3 : Int32} (hab : a = b + 1) : ∀ d F i G2, 6 - i = d → i ≤ 6 → d < F → zMS G1 m → zFr (fun x => x = m + 15) G1 G2 → (∀ q, gI G2 (m + 15) q = if 65 + 6 * a ≤ q ∧ q < 65 + 6 * a + i then gI G1 (m + 15) (q - 6) else gI G1 (m + 15) q) →
    ∃ G3, fX4_lay_b68 E K F m v1 v2 v3 (Int32.ofNat a) (65 + 6 * Int32.ofNat b) (Int32.ofNat i) G2 = K m v1 v2 v3 (Int32.ofNat b) G3 ∧ zFr (zFm m) G1 G3 ∧ (∀ q, gI G3 (m + 15) q = if 65 + 6 * a ≤ q ∧ q < 65 + 6 * a + 6 then gI G1 (m + 15) (q - 6) else gI G1 (m + 15) q) ∧ ∀ q, gI G3 (m + 20) q = if q = a then gI G1 (m + 20) b else gI G1 (m + 20) q
  | d, F, i, G2, hd, hi, hF, hM, hf, hq => by
    obtain ⟨F, rfl⟩ := z_suc hF
    have hM2 : zMS G2 m := hM.fr hf (hf.R (by omega))
    rw [fX4_lay_b68]
    cases d with
    | zero =>
      obtain rfl : i = 6 := by omega
      have e1 : Int32.ofNat a - 1 = Int32.ofNat b := by rw [hab, zi_dec]
      have a321 : a < 321 := by omega
      have b321 : b < 321 := by omega
      have e2 : Int32.ofNat a + -1 = Int32.ofNat b := by rw [hab, zi_dec2]
      rw [if_pos (show (6 : Int32) ≤ Int32.ofNat 6 from Int32.le_refl _)]
      simp only [↓zm_rI, ↓zm_chk, ↓zm_r0, ↓zm_r1, ↓zm_r9, ↓zm_r22, ↓zm_r23, ↓zm_r24, ↓zm_r25, ↓zm_r26, ↓zm_r27, ↓zm_r28, ↓zm_r29, ↓zm_r30, ↓zm_r31, ↓zm_r32, ↓zm_r33, ↓zm_r34, ↓zm_r36, ↓zm_r37, ↓zm_r38, ↓zm_r39, ↓zm_r43, ↓zm_r44, ↓zm_r45, ↓zm_r49, ↓zm_r50, ↓zm_r54, ↓zm_r55, ↓zm_r61, ↓zm_r62, ↓zm_r63, ↓zm_r64, ↓zm_r65, ↓zm_r66, ↓zm_r67, ↓zm_r69, ↓zm_a1, ↓zm_a2, ↓zm_a3, ↓zm_a4, ↓zm_a5, ↓zm_a6, ↓zm_a7, ↓zm_a8, ↓zm_a9, ↓zm_a10, ↓zm_a11, ↓zm_a12, ↓zm_a13, ↓zm_a14, ↓zm_a15, ↓zm_a16, ↓zm_a17, ↓zm_a18, ↓zm_a19, ↓zm_a20, ↓zm_a21, ↓zm_a22, ↓zm_a23, ↓zm_a24, ↓zm_a25, ↓zm_a26, ↓zm_a27, ↓zm_a28, ↓zm_a29, ↓zm_a30, ↓zm_a31, ↓zm_a32, ↓zm_a33, ↓zm_a34, ↓zm_a35, zMS_I, ↓zm_pI, ↓zm_pZ, ↓zm_s3, ↓zm_s4, ↓zm_s5, ↓zm_s6, ↓zm_s7, ↓zm_s8, ↓zm_s9, ↓zm_s10, ↓zm_s11, ↓zm_s12, ↓zm_s13, ↓zm_s14, ↓zm_s15, ↓zm_s16, ↓zm_s17, ↓zm_s18, ↓zm_s19, ↓zm_s20, ↓zm_s21, ↓zm_s22, ↓zm_s23, ↓zm_s24, ↓zm_s25, ↓zm_s26, ↓zm_s27, ↓zm_s28, ↓zm_s29, ↓zm_s30, ↓zm_s31, ↓zm_s32, ↓zm_s33, ↓zm_s34, ↓zm_s35, hM2, hB, e1, e2, a321, b321]
      refine ⟨_, rfl, (hf.mono fun x q => Or.inl q).wI2 (Or.inr rfl), fun q => by rw [zq_II, if_neg (by omega)]; exact hq q, fun q => ?_⟩
      rw [zq_II, hf.I (by omega)]
      by_cases c : q = a
      · rw [if_pos ⟨rfl, c⟩, if_pos c]
      · rw [if_neg (fun w => c w.2), if_neg c]
    | succ d =>
      have i6 : i < 6 := by omega
      have s1 : (65 : Int32) + 6 * Int32.ofNat b + Int32.ofNat i = Int32.ofNat (65 + 6 * b + i) := zi_word b i
      have s2 : (65 : Int32) + 6 * Int32.ofNat b + 6 + Int32.ofNat i = Int32.ofNat (65 + 6 * a + i) := by
        rw [hab, ← zi_word]
        have : (6 : Int32) * Int32.ofNat (b + 1) = 6 * Int32.ofNat b + 6 := by
          rw [Int32.ofNat_add, Int32.mul_add]
          rfl
        rw [this, Int32.add_assoc 65]
      have l1 : 65 + 6 * b + i < 1985 := by omega
      have l2 : 65 + 6 * a + i < 1985 := by omega
      have eb : gI G2 (m + 15) (65 + 6 * b + i) = gI G1 (m + 15) (65 + 6 * b + i) := by rw [hq, if_neg (by omega)]
      rw [if_neg (show ¬ (6 : Int32) ≤ Int32.ofNat i from zi_nle (a := 6) i6 (by omega))]
      simp only [↓zm_rI, ↓zm_chk, ↓zm_r0, ↓zm_r1, ↓zm_r9, ↓zm_r22, ↓zm_r23, ↓zm_r24, ↓zm_r25, ↓zm_r26, ↓zm_r27, ↓zm_r28, ↓zm_r29, ↓zm_r30, ↓zm_r31, ↓zm_r32, ↓zm_r33, ↓zm_r34, ↓zm_r36, ↓zm_r37, ↓zm_r38, ↓zm_r39, ↓zm_r43, ↓zm_r44, ↓zm_r45, ↓zm_r49, ↓zm_r50, ↓zm_r54, ↓zm_r55, ↓zm_r61, ↓zm_r62, ↓zm_r63, ↓zm_r64, ↓zm_r65, ↓zm_r66, ↓zm_r67, ↓zm_r69, ↓zm_a1, ↓zm_a2, ↓zm_a3, ↓zm_a4, ↓zm_a5, ↓zm_a6, ↓zm_a7, ↓zm_a8, ↓zm_a9, ↓zm_a10, ↓zm_a11, ↓zm_a12, ↓zm_a13, ↓zm_a14, ↓zm_a15, ↓zm_a16, ↓zm_a17, ↓zm_a18, ↓zm_a19, ↓zm_a20, ↓zm_a21, ↓zm_a22, ↓zm_a23, ↓zm_a24, ↓zm_a25, ↓zm_a26, ↓zm_a27, ↓zm_a28, ↓zm_a29, ↓zm_a30, ↓zm_a31, ↓zm_a32, ↓zm_a33, ↓zm_a34, ↓zm_a35, zMS_I, ↓zm_pI, ↓zm_pZ, ↓zm_s3, ↓zm_s4, ↓zm_s5, ↓zm_s6, ↓zm_s7, ↓zm_s8, ↓zm_s9, ↓zm_s10, ↓zm_s11, ↓zm_s12, ↓zm_s13, ↓zm_s14, ↓zm_s15, ↓zm_s16, ↓zm_s17, ↓zm_s18, ↓zm_s19, ↓zm_s20, ↓zm_s21, ↓zm_s22, ↓zm_s23, ↓zm_s24, ↓zm_s25, ↓zm_s26, ↓zm_s27, ↓zm_s28, ↓zm_s29, ↓zm_s30, ↓zm_s31, ↓zm_s32, ↓zm_s33, ↓zm_s34, ↓zm_s35, hM2, hB, s1, s2, l1, l2, eb, zi_inc]
      refine zm_shift hB ha hb K hab d F (i + 1) _ (by omega) (by omega) (by omega) hM (hf.wI2 rfl) fun q => ?_
      rw [zq_II]
      by_cases c : q = 65 + 6 * a + i
      · rw [if_pos ⟨rfl, c⟩, if_pos (by omega)]
        congr 1
        omega
      · rw [if_neg (fun x => c x.2), hq]
        by_cases c2 : 65 + 6 * a ≤ q ∧ q < 65 + 6 * a + i
        · rw [if_pos c2, if_pos (by omega)]
        · rw [if_neg c2, if_neg (by omega)]
theorem zMx.put {G3 : g_G} (h : zMx m G G1 f) {a b : Nat} (hab : a = b + 1) (h1 : zFr (zFm m) G1 G3) (h2 : ∀ q, gI G3 (m + 15) q = if 65 + 6 * a ≤ q ∧ q < 65 + 6 * a + 6 then gI G1 (m + 15) (q - 6) else gI G1 (m + 15) q) (h3 : ∀ q, gI G3 (m + 20) q = if q = a then gI G1 (m + 20) b else gI G1 (m + 20) q) : zMx m G G3 (fun k => if k = a then f b else f k) := by
  refine ⟨h.1.trans h1, fun j hj => by rw [h2, if_neg (by omega), h.2.1 j hj], fun k i hi => ?_, fun k => ?_⟩
  · dsimp only
    rw [h2]
    by_cases c : k = a
    · rw [if_pos (by omega), if_pos c, show 65 + 6 * k + i - 6 = 65 + 6 * b + i by omega, h.2.2.1 b i hi]
    · rw [if_neg (by omega), if_neg c, h.2.2.1 k i hi]
  · dsimp only
    rw [h3]
    by_cases c : k = a
    · rw [if_pos c, if_pos c, h.2.2.2 b]
    · rw [if_neg c, if_neg c, h.2.2.2 k]
/-- the place of a new word -/
theorem zm_lay_b13 {h t : Nat} {v2 : Int32} (hM0 : zMS G m) (hB : gB E ≤ m) (hL : zML P G (m + 15) n S) (hm : sm S < 320) (hh : h < 8) (ht : t < 8) : ∀ i F G1, i ≤ sm S → i < F → zMx m G G1 (fun k => if i < k ∧ k ≤ sm S then k - 1 else k) →
    ∃ G2, fX4_lay_b13 E F m (Int32.ofNat h) v2 (Int32.ofNat t) (Int32.ofNat i) G1 = fX4_lay_b126 E m (Int32.ofNat h) v2 (Int32.ofNat t) (Int32.ofNat (zlpos (sw S) (8 * h + t) i)) G2 ∧ zMx m G G2 (fun k => if zlpos (sw S) (8 * h + t) i < k ∧ k ≤ sm S then k - 1 else k)
  | i, F, G1, hi, hF, hX => by
    obtain ⟨F, rfl⟩ := z_suc hF
    have hM1 := hX.ms hM0
    rw [fX4_lay_b13]
    cases i with
    | zero => exact ⟨G1, by rw [if_pos (show Int32.ofNat 0 ≤ 0 from Int32.le_refl _)]; rfl, hX⟩
    | succ i =>
      obtain ⟨w1, w2, w3, w4, w5⟩ := hL.wd (k := i) (by omega)
      have i3 : i < 320 := by omega
      have g0 : gI G1 (m + 15) (65 + 6 * i) = Int32.ofNat (wpr (sw S i) / 8) := by
        have := hX.2.2.1 i 0 (by omega)
        dsimp only at this
        rw [if_neg (by omega)] at this
        rw [← w3]
        exact this
      have g1 : gI G1 (m + 15) (65 + 6 * i + 1) = Int32.ofNat (wpr (sw S i) % 8) := by
        have := hX.2.2.1 i 1 (by omega)
        dsimp only at this
        rw [if_neg (by omega)] at this
        rw [← w4]
        exact this
      have e0 : ∀ (α : Type) (K : Int32 → Option α), (gaI G1 100 (some (m + 15)) (65 + 6 * Int32.ofNat i + 0)).bind K = K (gI G1 (m + 15) (65 + 6 * i)) := fun α K => zm_wd (i := 0) hM1 i3 (by omega)
      have e1 : ∀ (α : Type) (K : Int32 → Option α), (gaI G1 100 (some (m + 15)) (65 + 6 * Int32.ofNat i + 1)).bind K = K (gI G1 (m + 15) (65 + 6 * i + 1)) := fun α K => zm_wd (i := 1) hM1 i3 (by omega)
      have epr : 8 * (wpr (sw S i) / 8) + wpr (sw S i) % 8 = wpr (sw S i) := by omega
      rw [if_neg (show ¬ Int32.ofNat (i + 1) ≤ 0 from zi_nle (b := 0) (by omega) (by omega)), zlpos_succ]
      simp only [fX4_wordAt, Option.bind_some, zi_dec, ↓zm_rI, ↓zm_chk, ↓zm_r0, ↓zm_r1, ↓zm_r9, ↓zm_r22, ↓zm_r23, ↓zm_r24, ↓zm_r25, ↓zm_r26, ↓zm_r27, ↓zm_r28, ↓zm_r29, ↓zm_r30, ↓zm_r31, ↓zm_r32, ↓zm_r33, ↓zm_r34, ↓zm_r36, ↓zm_r37, ↓zm_r38, ↓zm_r39, ↓zm_r43, ↓zm_r44, ↓zm_r45, ↓zm_r49, ↓zm_r50, ↓zm_r54, ↓zm_r55, ↓zm_r61, ↓zm_r62, ↓zm_r63, ↓zm_r64, ↓zm_r65, ↓zm_r66, ↓zm_r67, ↓zm_r69, ↓zm_a1, ↓zm_a2, ↓zm_a3, ↓zm_a4, ↓zm_a5, ↓zm_a6, ↓zm_a7, ↓zm_a8, ↓zm_a9, ↓zm_a10, ↓zm_a11, ↓zm_a12, ↓zm_a13, ↓zm_a14, ↓zm_a15, ↓zm_a16, ↓zm_a17, ↓zm_a18, ↓zm_a19, ↓zm_a20, ↓zm_a21, ↓zm_a22, ↓zm_a23, ↓zm_a24, ↓zm_a25, ↓zm_a26, ↓zm_a27, ↓zm_a28, ↓zm_a29, ↓zm_a30, ↓zm_a31, ↓zm_a32, ↓zm_a33, ↓zm_a34, ↓zm_a35, zMS_I, hM1, e0, e1, g0, g1, zi_8, epr, zi_ltq (show 8 * h + t < 2147483648 by omega) (show wpr (sw S i) < 2147483648 by omega)]
      by_cases c : wpr (sw S i) ≤ 8 * h + t
      · rw [if_neg (show ¬ 8 * h + t < wpr (sw S i) by omega), if_pos c]
        exact ⟨G1, rfl, hX⟩
      · rw [if_pos (show 8 * h + t < wpr (sw S i) by omega), if_neg c]
        obtain ⟨G3, q1, q2, q3, q4⟩ := zm_shift (E := E) (v1 := Int32.ofNat h) (v2 := v2) (v3 := Int32.ofNat t) hB (a := i + 1) (b := i) (by omega) i3 (fX4_lay_b13 E F) rfl 6 gFU 0 G1 (by omega) (by omega) (z_F _ (by omega)) hM1 (zFr.refl _ _) (fun q => by rw [if_neg (by omega)])
        obtain ⟨G4, r1, r2⟩ := zm_lay_b13 hM0 hB hL hm hh ht i F G3 (by omega) (by omega) ((hX.put rfl q2 q3 q4).congr (g := fun k => if i < k ∧ k ≤ sm S then k - 1 else k) (fun k => by
          by_cases c : k = i + 1
          · rw [if_pos c, if_neg (by omega), if_pos (by omega), c]
            omega
          · rw [if_neg c]
            by_cases c2 : i + 1 < k ∧ k ≤ sm S
            · rw [if_pos c2, if_pos (by omega)]
            · rw [if_neg c2, if_neg (by omega)]))
        exact ⟨G4, q1.trans r1, r2⟩
/-! a word is taken away -/
theorem zm_shift2 (hB : gB E ≤ m) {a b : Nat} (ha : a < 320) (hb : b < 320) (K : Nat → Int32 → g_G → Option g_G) (hab : b = a + 1) : ∀ d F i G2, 6 - i = d → i ≤ 6 → d < F → zMS G1 m → zFr (fun x => x = m + 15) G1 G2 → (∀ q, gI G2 (m + 15) q = if 65 + 6 * a ≤ q ∧ q < 65 + 6 * a + i then gI G1 (m + 15) (q + 6) else gI G1 (m + 15) q) →
    ∃ G3, fX4_takeAway_b20 E K F m (Int32.ofNat a) (65 + 6 * Int32.ofNat a) (Int32.ofNat i) G2 = K m (Int32.ofNat b) G3 ∧ zFr (zFm m) G1 G3 ∧ (∀ q, gI G3 (m + 15) q = if 65 + 6 * a ≤ q ∧ q < 65 + 6 * a + 6 then gI G1 (m + 15) (q + 6) else gI G1 (m + 15) q) ∧ ∀ q, gI G3 (m + 20) q = if q = a then gI G1 (m + 20) b else gI G1 (m + 20) q
  | d, F, i, G2, hd, hi, hF, hM, hf, hq => by
    obtain ⟨F, rfl⟩ := z_suc hF
    have hM2 : zMS G2 m := hM.fr hf (hf.R (by omega))
    rw [fX4_takeAway_b20]
    cases d with
    | zero =>
      obtain rfl : i = 6 := by omega
      have e1 : Int32.ofNat a + 1 = Int32.ofNat b := by rw [hab, zi_inc]
      have a321 : a < 321 := by omega
      have b321 : b < 321 := by omega
      rw [if_pos (show (6 : Int32) ≤ Int32.ofNat 6 from Int32.le_refl _)]
      simp only [↓zm_rI, ↓zm_chk, ↓zm_r0, ↓zm_r1, ↓zm_r9, ↓zm_r22, ↓zm_r23, ↓zm_r24, ↓zm_r25, ↓zm_r26, ↓zm_r27, ↓zm_r28, ↓zm_r29, ↓zm_r30, ↓zm_r31, ↓zm_r32, ↓zm_r33, ↓zm_r34, ↓zm_r36, ↓zm_r37, ↓zm_r38, ↓zm_r39, ↓zm_r43, ↓zm_r44, ↓zm_r45, ↓zm_r49, ↓zm_r50, ↓zm_r54, ↓zm_r55, ↓zm_r61, ↓zm_r62, ↓zm_r63, ↓zm_r64, ↓zm_r65, ↓zm_r66, ↓zm_r67, ↓zm_r69, ↓zm_a1, ↓zm_a2, ↓zm_a3, ↓zm_a4, ↓zm_a5, ↓zm_a6, ↓zm_a7, ↓zm_a8, ↓zm_a9, ↓zm_a10, ↓zm_a11, ↓zm_a12, ↓zm_a13, ↓zm_a14, ↓zm_a15, ↓zm_a16, ↓zm_a17, ↓zm_a18, ↓zm_a19, ↓zm_a20, ↓zm_a21, ↓zm_a22, ↓zm_a23, ↓zm_a24, ↓zm_a25, ↓zm_a26, ↓zm_a27, ↓zm_a28, ↓zm_a29, ↓zm_a30, ↓zm_a31, ↓zm_a32, ↓zm_a33, ↓zm_a34, ↓zm_a35, zMS_I, ↓zm_pI, ↓zm_pZ, ↓zm_s3, ↓zm_s4, ↓zm_s5, ↓zm_s6, ↓zm_s7, ↓zm_s8, ↓zm_s9, ↓zm_s10, ↓zm_s11, ↓zm_s12, ↓zm_s13, ↓zm_s14, ↓zm_s15, ↓zm_s16, ↓zm_s17, ↓zm_s18, ↓zm_s19, ↓zm_s20, ↓zm_s21, ↓zm_s22, ↓zm_s23, ↓zm_s24, ↓zm_s25, ↓zm_s26, ↓zm_s27, ↓zm_s28, ↓zm_s29, ↓zm_s30, ↓zm_s31, ↓zm_s32, ↓zm_s33, ↓zm_s34, ↓zm_s35, hM2, hB, e1, a321, b321]
      refine ⟨_, rfl, (hf.mono fun x q => Or.inl q).wI2 (Or.inr rfl), fun q => by rw [zq_II, if_neg (by omega)]; exact hq q, fun q => ?_⟩
      rw [zq_II, hf.I (by omega)]
      by_cases c : q = a
      · rw [if_pos ⟨rfl, c⟩, if_pos c]
      · rw [if_neg (fun w => c w.2), if_neg c]
    | succ d =>
      have i6 : i < 6 := by omega
      have s1 : (65 : Int32) + 6 * Int32.ofNat a + Int32.ofNat i = Int32.ofNat (65 + 6 * a + i) := zi_word a i
      have s2 : (65 : Int32) + 6 * Int32.ofNat a + 6 + Int32.ofNat i = Int32.ofNat (65 + 6 * b + i) := by
        rw [hab, ← zi_word]
        have : (6 : Int32) * Int32.ofNat (a + 1) = 6 * Int32.ofNat a + 6 := by
          rw [Int32.ofNat_add, Int32.mul_add]
          rfl
        rw [this, Int32.add_assoc 65]
      have l1 : 65 + 6 * a + i < 1985 := by omega
      have l2 : 65 + 6 * b + i < 1985 := by omega
      have eb : gI G2 (m + 15) (65 + 6 * b + i) = gI G1 (m + 15) (65 + 6 * b + i) := by rw [hq, if_neg (by omega)]
      rw [if_neg (show ¬ (6 : Int32) ≤ Int32.ofNat i from zi_nle (a := 6) i6 (by omega))]
      simp only [↓zm_rI, ↓zm_chk, ↓zm_r0, ↓zm_r1, ↓zm_r9, ↓zm_r22, ↓zm_r23, ↓zm_r24, ↓zm_r25, ↓zm_r26, ↓zm_r27, ↓zm_r28, ↓zm_r29, ↓zm_r30, ↓zm_r31, ↓zm_r32, ↓zm_r33, ↓zm_r34, ↓zm_r36, ↓zm_r37, ↓zm_r38, ↓zm_r39, ↓zm_r43, ↓zm_r44, ↓zm_r45, ↓zm_r49, ↓zm_r50, ↓zm_r54, ↓zm_r55, ↓zm_r61, ↓zm_r62, ↓zm_r63, ↓zm_r64, ↓zm_r65, ↓zm_r66, ↓zm_r67, ↓zm_r69, ↓zm_a1, ↓zm_a2, ↓zm_a3, ↓zm_a4, ↓zm_a5, ↓zm_a6, ↓zm_a7, ↓zm_a8, ↓zm_a9, ↓zm_a10, ↓zm_a11, ↓zm_a12, ↓zm_a13, ↓zm_a14, ↓zm_a15, ↓zm_a16, ↓zm_a17, ↓zm_a18, ↓zm_a19, ↓zm_a20, ↓zm_a21, ↓zm_a22, ↓zm_a23, ↓zm_a24, ↓zm_a25, ↓zm_a26, ↓zm_a27, ↓zm_a28, ↓zm_a29, ↓zm_a30, ↓zm_a31, ↓zm_a32, ↓zm_a33, ↓zm_a34, ↓zm_a35, zMS_I, ↓zm_pI, ↓zm_pZ, ↓zm_s3, ↓zm_s4, ↓zm_s5, ↓zm_s6, ↓zm_s7, ↓zm_s8, ↓zm_s9, ↓zm_s10, ↓zm_s11, ↓zm_s12, ↓zm_s13, ↓zm_s14, ↓zm_s15, ↓zm_s16, ↓zm_s17, ↓zm_s18, ↓zm_s19, ↓zm_s20, ↓zm_s21, ↓zm_s22, ↓zm_s23, ↓zm_s24, ↓zm_s25, ↓zm_s26, ↓zm_s27, ↓zm_s28, ↓zm_s29, ↓zm_s30, ↓zm_s31, ↓zm_s32, ↓zm_s33, ↓zm_s34, ↓zm_s35, hM2, hB, s1, s2, l1, l2, eb, zi_inc]
      refine zm_shift2 hB ha hb K hab d F (i + 1) _ (by omega) (by omega) (by omega) hM (hf.wI2 rfl) fun q => ?_
      rw [zq_II]
      by_cases c : q = 65 + 6 * a + i
      · rw [if_pos ⟨rfl, c⟩, if_pos (by omega)]
        congr 1
        omega
      · rw [if_neg (fun x => c x.2), hq]
        by_cases c2 : 65 + 6 * a ≤ q ∧ q < 65 + 6 * a + i
        · rw [if_pos c2, if_pos (by omega)]
        · rw [if_neg c2, if_neg (by omega)]
theorem zMx.put2 {G3 : g_G} (h : zMx m G G1 f) {a b : Nat} (hab : b = a + 1) (h1 : zFr (zFm m) G1 G3) (h2 : ∀ q, gI G3 (m + 15) q = if 65 + 6 * a ≤ q ∧ q < 65 + 6 * a + 6 then gI G1 (m + 15) (q + 6) else gI G1 (m + 15) q) (h3 : ∀ q, gI G3 (m + 20) q = if q = a then gI G1 (m + 20) b else gI G1 (m + 20) q) : zMx m G G3 (fun k => if k = a then f b else f k) := by
  refine ⟨h.1.trans h1, fun j hj => by rw [h2, if_neg (by omega), h.2.1 j hj], fun k i hi => ?_, fun k => ?_⟩
  · dsimp only
    rw [h2]
    by_cases c : k = a
    · rw [if_pos (by omega), if_pos c, show 65 + 6 * k + i + 6 = 65 + 6 * b + i by omega, h.2.2.1 b i hi]
    · rw [if_neg (by omega), if_neg c, h.2.2.1 k i hi]
  · dsimp only
    rw [h3]
    by_cases c : k = a
    · rw [if_pos c, if_pos c, h.2.2.2 b]
    · rw [if_neg c, if_neg c, h.2.2.2 k]
theorem zm_ta_b95 (hB : gB E ≤ m) {k : Nat} (hk : k < 320) (hM : zMS G1 m) : ∀ d F i G2, 6 - i = d → i ≤ 6 → d < F → zFr (fun x => x = m + 15) G1 G2 → (∀ q, ¬ (65 + 6 * k ≤ q ∧ q < 65 + 6 * k + 6) → gI G2 (m + 15) q = gI G1 (m + 15) q) →
    ∃ G3, fX4_takeAway_b95 E F m (65 + 6 * Int32.ofNat k) (Int32.ofNat i) G2 = some G3 ∧ zFr (fun x => x = m + 15) G1 G3 ∧ ∀ q, ¬ (65 + 6 * k ≤ q ∧ q < 65 + 6 * k + 6) → gI G3 (m + 15) q = gI G1 (m + 15) q
  | d, F, i, G2, hd, hi, hF, hf, hq => by
    obtain ⟨F, rfl⟩ := z_suc hF
    have hM2 : zMS G2 m := hM.fr hf (hf.R (by omega))
    rw [fX4_takeAway_b95]
    cases d with
    | zero =>
      obtain rfl : i = 6 := by omega
      rw [if_pos (show (6 : Int32) ≤ Int32.ofNat 6 from Int32.le_refl _)]
      exact ⟨G2, rfl, hf, hq⟩
    | succ d =>
      have i6 : i < 6 := by omega
      have l1 : 65 + 6 * k + i < 1985 := by omega
      rw [if_neg (show ¬ (6 : Int32) ≤ Int32.ofNat i from zi_nle (a := 6) i6 (by omega))]
      simp only [↓zm_rI, ↓zm_chk, ↓zm_r0, ↓zm_r1, ↓zm_r9, ↓zm_r22, ↓zm_r23, ↓zm_r24, ↓zm_r25, ↓zm_r26, ↓zm_r27, ↓zm_r28, ↓zm_r29, ↓zm_r30, ↓zm_r31, ↓zm_r32, ↓zm_r33, ↓zm_r34, ↓zm_r36, ↓zm_r37, ↓zm_r38, ↓zm_r39, ↓zm_r43, ↓zm_r44, ↓zm_r45, ↓zm_r49, ↓zm_r50, ↓zm_r54, ↓zm_r55, ↓zm_r61, ↓zm_r62, ↓zm_r63, ↓zm_r64, ↓zm_r65, ↓zm_r66, ↓zm_r67, ↓zm_r69, ↓zm_a1, ↓zm_a2, ↓zm_a3, ↓zm_a4, ↓zm_a5, ↓zm_a6, ↓zm_a7, ↓zm_a8, ↓zm_a9, ↓zm_a10, ↓zm_a11, ↓zm_a12, ↓zm_a13, ↓zm_a14, ↓zm_a15, ↓zm_a16, ↓zm_a17, ↓zm_a18, ↓zm_a19, ↓zm_a20, ↓zm_a21, ↓zm_a22, ↓zm_a23, ↓zm_a24, ↓zm_a25, ↓zm_a26, ↓zm_a27, ↓zm_a28, ↓zm_a29, ↓zm_a30, ↓zm_a31, ↓zm_a32, ↓zm_a33, ↓zm_a34, ↓zm_a35, zMS_I, ↓zm_pI, ↓zm_pZ, ↓zm_s3, ↓zm_s4, ↓zm_s5, ↓zm_s6, ↓zm_s7, ↓zm_s8, ↓zm_s9, ↓zm_s10, ↓zm_s11, ↓zm_s12, ↓zm_s13, ↓zm_s14, ↓zm_s15, ↓zm_s16, ↓zm_s17, ↓zm_s18, ↓zm_s19, ↓zm_s20, ↓zm_s21, ↓zm_s22, ↓zm_s23, ↓zm_s24, ↓zm_s25, ↓zm_s26, ↓zm_s27, ↓zm_s28, ↓zm_s29, ↓zm_s30, ↓zm_s31, ↓zm_s32, ↓zm_s33, ↓zm_s34, ↓zm_s35, hM2, hB, zi_word, l1, zi_inc]
      exact zm_ta_b95 hB hk hM d F (i + 1) _ (by omega) (by omega) (by omega) (hf.wI2 rfl) (fun q hq2 => by rw [zq_II, if_neg (by omega), hq q hq2])
theorem zm_wat {α : Type} (K : Int32 → g_G → Option α) (v : Int32) : (fX4_wordAt E v G).bind (fun z => K z.1 z.2) = K (65 + 6 * v) G := rfl
theorem zm_ta_b2 {k : Nat} (hM0 : zMS G m) (hB : gB E ≤ m) (hL : zML P G (m + 15) n S) : ∀ d F i G1, sm S - 1 - i = d → k ≤ i → i < sm S → d < F → zMx m G G1 (fun j => if k ≤ j ∧ j < i then j + 1 else j) →
    ∃ G2, fX4_takeAway_b2 E F m (Int32.ofNat i) G1 = some G2 ∧ zFr (zFm m) G G2 ∧ (∀ j, j < 64 → gI G2 (m + 15) j = gI G (m + 15) j) ∧ gI G2 (m + 15) 64 = Int32.ofNat (sm S - 1) ∧ (∀ j i, i < 6 → j < sm S - 1 → gI G2 (m + 15) (65 + 6 * j + i) = gI G (m + 15) (65 + 6 * (if k ≤ j then j + 1 else j) + i)) ∧ ∀ j, j < sm S - 1 → gI G2 (m + 20) j = gI G (m + 20) (if k ≤ j then j + 1 else j)
  | d, F, i, G1, hd, hk, hi, hF, hX => by
    obtain ⟨F, rfl⟩ := z_suc hF
    have hM1 := hX.ms hM0
    have hm := hL.2.1
    have e64 : gI G1 (m + 15) 64 = Int32.ofNat (sm S) := by rw [hX.2.1 64 (by omega), hL.I]
    have q64 : ∀ (G : g_G) (α : Type) (K : Int32 → Option α), zMS G m → (gaI G 100 (some (m + 15)) 64).bind K = K (gI G (m + 15) 64) := fun G α K h => zm_a15 (i := 64) h (by omega)
    have s64 : ∀ (G : g_G) (v : Int32) (α : Type) (K : g_G → Option α), zMS G m → (gsaI E G (some (m + 15)) 64 v).bind K = K (gsI G (m + 15) 64 v) := fun G v α K h => zm_s15 (i := 64) h hB (by omega)
    have ws : fX4_words E m G1 = some (Int32.ofNat (sm S), G1) := by
      simp only [fX4_words, ↓zm_rI, ↓zm_chk, ↓zm_r0, ↓zm_r1, ↓zm_r9, ↓zm_r22, ↓zm_r23, ↓zm_r24, ↓zm_r25, ↓zm_r26, ↓zm_r27, ↓zm_r28, ↓zm_r29, ↓zm_r30, ↓zm_r31, ↓zm_r32, ↓zm_r33, ↓zm_r34, ↓zm_r36, ↓zm_r37, ↓zm_r38, ↓zm_r39, ↓zm_r43, ↓zm_r44, ↓zm_r45, ↓zm_r49, ↓zm_r50, ↓zm_r54, ↓zm_r55, ↓zm_r61, ↓zm_r62, ↓zm_r63, ↓zm_r64, ↓zm_r65, ↓zm_r66, ↓zm_r67, ↓zm_r69, ↓zm_a1, ↓zm_a2, ↓zm_a3, ↓zm_a4, ↓zm_a5, ↓zm_a6, ↓zm_a7, ↓zm_a8, ↓zm_a9, ↓zm_a10, ↓zm_a11, ↓zm_a12, ↓zm_a13, ↓zm_a14, ↓zm_a15, ↓zm_a16, ↓zm_a17, ↓zm_a18, ↓zm_a19, ↓zm_a20, ↓zm_a21, ↓zm_a22, ↓zm_a23, ↓zm_a24, ↓zm_a25, ↓zm_a26, ↓zm_a27, ↓zm_a28, ↓zm_a29, ↓zm_a30, ↓zm_a31, ↓zm_a32, ↓zm_a33, ↓zm_a34, ↓zm_a35, zMS_I, hM1, q64 G1 _ _ hM1, e64]
    rw [fX4_takeAway_b2, zm_chk hM1, ws, Option.bind_some, zi_inc]
    cases d with
    | zero =>
      have e1 : Int32.ofNat (sm S) - 1 = Int32.ofNat (sm S - 1) := (Int32.ofNat_sub (sm S) 1 (by omega)).symm
      rw [if_pos (zi_le (by omega) (by omega))]
      have hM2 : zMS (gsI G1 (m + 15) 64 (Int32.ofNat (sm S - 1))) m := hM1
      have w2 : fX4_words E m (gsI G1 (m + 15) 64 (Int32.ofNat (sm S - 1))) = some (Int32.ofNat (sm S - 1), gsI G1 (m + 15) 64 (Int32.ofNat (sm S - 1))) := by
        simp only [fX4_words, ↓zm_rI, ↓zm_chk, ↓zm_r0, ↓zm_r1, ↓zm_r9, ↓zm_r22, ↓zm_r23, ↓zm_r24, ↓zm_r25, ↓zm_r26, ↓zm_r27, ↓zm_r28, ↓zm_r29, ↓zm_r30, ↓zm_r31, ↓zm_r32, ↓zm_r33, ↓zm_r34, ↓zm_r36, ↓zm_r37, ↓zm_r38, ↓zm_r39, ↓zm_r43, ↓zm_r44, ↓zm_r45, ↓zm_r49, ↓zm_r50, ↓zm_r54, ↓zm_r55, ↓zm_r61, ↓zm_r62, ↓zm_r63, ↓zm_r64, ↓zm_r65, ↓zm_r66, ↓zm_r67, ↓zm_r69, ↓zm_a1, ↓zm_a2, ↓zm_a3, ↓zm_a4, ↓zm_a5, ↓zm_a6, ↓zm_a7, ↓zm_a8, ↓zm_a9, ↓zm_a10, ↓zm_a11, ↓zm_a12, ↓zm_a13, ↓zm_a14, ↓zm_a15, ↓zm_a16, ↓zm_a17, ↓zm_a18, ↓zm_a19, ↓zm_a20, ↓zm_a21, ↓zm_a22, ↓zm_a23, ↓zm_a24, ↓zm_a25, ↓zm_a26, ↓zm_a27, ↓zm_a28, ↓zm_a29, ↓zm_a30, ↓zm_a31, ↓zm_a32, ↓zm_a33, ↓zm_a34, ↓zm_a35, zMS_I, hM2, q64 _ _ _ hM2, zq_II, and_self, ↓reduceIte]
      have key : ∀ K : Int32 → g_G → Option g_G, (grR G1 4 4 (some m) 33).bind (fun x75 => (gaI G1 100 x75 64).bind fun x81 => (gsaI E G1 x75 64 (x81 - 1)).bind fun G84 => (gchk G84 4 (some m)).bind fun b86 => (fX4_words E b86 G84).bind fun z86 => (fX4_wordAt E z86.1 z86.2).bind fun z89 => K z89.1 z89.2) = K (65 + 6 * Int32.ofNat (sm S - 1)) (gsI G1 (m + 15) 64 (Int32.ofNat (sm S - 1))) := fun K => by
        simp only [↓zm_rI, ↓zm_chk, ↓zm_r0, ↓zm_r1, ↓zm_r9, ↓zm_r22, ↓zm_r23, ↓zm_r24, ↓zm_r25, ↓zm_r26, ↓zm_r27, ↓zm_r28, ↓zm_r29, ↓zm_r30, ↓zm_r31, ↓zm_r32, ↓zm_r33, ↓zm_r34, ↓zm_r36, ↓zm_r37, ↓zm_r38, ↓zm_r39, ↓zm_r43, ↓zm_r44, ↓zm_r45, ↓zm_r49, ↓zm_r50, ↓zm_r54, ↓zm_r55, ↓zm_r61, ↓zm_r62, ↓zm_r63, ↓zm_r64, ↓zm_r65, ↓zm_r66, ↓zm_r67, ↓zm_r69, ↓zm_a1, ↓zm_a2, ↓zm_a3, ↓zm_a4, ↓zm_a5, ↓zm_a6, ↓zm_a7, ↓zm_a8, ↓zm_a9, ↓zm_a10, ↓zm_a11, ↓zm_a12, ↓zm_a13, ↓zm_a14, ↓zm_a15, ↓zm_a16, ↓zm_a17, ↓zm_a18, ↓zm_a19, ↓zm_a20, ↓zm_a21, ↓zm_a22, ↓zm_a23, ↓zm_a24, ↓zm_a25, ↓zm_a26, ↓zm_a27, ↓zm_a28, ↓zm_a29, ↓zm_a30, ↓zm_a31, ↓zm_a32, ↓zm_a33, ↓zm_a34, ↓zm_a35, zMS_I, hM1, q64 G1 _ _ hM1, e64, e1, s64 G1 _ _ _ hM1, hM2, w2, Option.bind_some, fX4_wordAt]
      obtain ⟨G3, g1, g2, g3⟩ := zm_ta_b95 (E := E) hB (k := sm S - 1) (by omega) hM2 6 gFU 0 _ (by omega) (by omega) (z_F _ (by omega)) (zFr.refl _ _) (fun q _ => rfl)
      refine ⟨G3, (key (fun a g => fX4_takeAway_b95 E gFU m a 0 g)).trans g1, (hX.1.trans (zFr.wI (Or.inl rfl))).trans (g2.mono fun a q => Or.inl q), fun j hj => ?_, ?_, fun j i hi hj => ?_, fun j hj => ?_⟩
      · rw [g3 j (by omega), zq_II, if_neg (by omega), hX.2.1 j (by omega)]
      · rw [g3 64 (by omega), zq_II, if_pos ⟨rfl, rfl⟩]
      · rw [g3 _ (by omega), zq_II, if_neg (by omega), hX.2.2.1 j i hi]
        dsimp only
        congr 3
        by_cases c : k ≤ j
        · rw [if_pos c, if_pos (by omega)]
        · rw [if_neg c, if_neg (by omega)]
      · rw [g2.I (by omega), zq_II, if_neg (by omega), hX.2.2.2 j]
        dsimp only
        congr 1
        by_cases c : k ≤ j
        · rw [if_pos c, if_pos (by omega)]
        · rw [if_neg c, if_neg (by omega)]
    | succ d =>
      rw [if_neg (zi_nle (by omega) (by omega))]
      obtain ⟨G3, q1, q2, q3, q4⟩ := zm_shift2 (E := E) hB (a := i) (b := i + 1) (by omega) (by omega) (fX4_takeAway_b2 E F) rfl 6 gFU 0 G1 (by omega) (by omega) (z_F _ (by omega)) hM1 (zFr.refl _ _) (fun q => by rw [if_neg (by omega)])
      obtain ⟨G4, r1, r2⟩ := zm_ta_b2 hM0 hB hL d F (i + 1) G3 (by omega) (by omega) (by omega) (by omega) ((hX.put2 rfl q2 q3 q4).congr (g := fun j => if k ≤ j ∧ j < i + 1 then j + 1 else j) (fun j => by
        by_cases c : j = i
        · rw [if_pos c, if_neg (by omega), if_pos (by omega), c]
        · rw [if_neg c]
          by_cases c2 : k ≤ j ∧ j < i
          · rw [if_pos c2, if_pos (by omega)]
          · rw [if_neg c2, if_neg (by omega)]))
      exact ⟨G4, ((zm_wat (fun a g => fX4_takeAway_b20 E (fX4_takeAway_b2 E F) gFU m (Int32.ofNat i) a 0 g) (Int32.ofNat i)).trans q1).trans r1, r2⟩
theorem zm_takeAway {k : Nat} (hT : zMt P E G m n o) (hL : zML P G (m + 15) n S) (hk : k < sm S) : ∃ G1, fX4_takeAway E m (Int32.ofNat k) G = some G1 ∧ zFr (zFm m) G G1 ∧ zML P G1 (m + 15) n (zout S k) ∧ ∀ j, j < sm S - 1 → gI G1 (m + 20) j = zdel (gI G (m + 20)) k j := by
  have hm := hL.2.1
  obtain ⟨G1, g1, g2, g3, g4, g5, g6⟩ := zm_ta_b2 (E := E) (k := k) hT.1 hT.2.2.1 hL (sm S - 1 - k) gFU k G rfl (Nat.le_refl _) hk (z_F _ (by omega)) ⟨zFr.refl _ _, fun _ _ => rfl, fun j i _ => by simp only [show ¬ (k ≤ j ∧ j < k) by omega, ↓reduceIte], fun j => by simp only [show ¬ (k ≤ j ∧ j < k) by omega, ↓reduceIte]⟩
  refine ⟨G1, g1, g2, ⟨hL.1, by show sm S - 1 ≤ 320; omega, fun h hh => ?_, fun i h1 h2 => by rw [g3 i h2]; exact hL.2.2.2.1 i h1 h2, g4, fun j hj => ?_⟩, fun j hj => by rw [g6 j hj, zdel_at]⟩
  · obtain ⟨d1, d2, d3, d4, d5⟩ := hL.hd hh
    have h8 := hL.1
    exact ⟨by rw [g3 _ (by omega)]; exact d1, by rw [g3 _ (by omega)]; exact d2, fun q hq => by rw [g3 _ (by omega)]; exact d3 q hq, by rw [g3 _ (by omega)]; exact d4, by rw [g3 _ (by omega)]; exact d5⟩
  · have hj : j < sm S - 1 := hj
    obtain ⟨w1, w2, w3, w4, w5, w6, w7, w8⟩ := hL.wd (k := if k ≤ j then j + 1 else j) (by split <;> omega)
    show zMW G1 (m + 15) j (zdel (sw S) k j)
    rw [zdel_at]
    exact ⟨w1, w2, (g5 j 0 (by omega) hj).trans w3, (g5 j 1 (by omega) hj).trans w4, (g5 j 2 (by omega) hj).trans w5, (g5 j 3 (by omega) hj).trans w6, (g5 j 4 (by omega) hj).trans w7, (g5 j 5 (by omega) hj).trans w8⟩
end Z37
