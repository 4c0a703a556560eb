/-! THE PLAIN LAW, 31: the model's state at hand; sums -/
set_option maxRecDepth 100000
/-- a hand's row of the model -/
def zMH (P : zPr) (G : g_G) (w h : Nat) (H : zH) : Prop := gI G w (8 * h) = zat P H ∧ gI G w (8 * h + 1) = zb (hst H) ∧ (∀ k, k < 4 → gI G w (8 * h + (2 + k)) = hvr H k) ∧ gI G w (8 * h + 6) = hfr H ∧ gI G w (8 * h + 7) = htd H
def zMW (G : g_G) (w k : Nat) (x : zW) : Prop := wpr x < 64 ∧ (1 ≤ wln x ∧ wln x ≤ 99) ∧ gI G w (65 + 6 * k) = Int32.ofNat (wpr x / 8) ∧ gI G w (65 + 6 * k + 1) = Int32.ofNat (wpr x % 8) ∧ gI G w (65 + 6 * k + 2) = wmk x ∧ gI G w (65 + 6 * k + 3) = wvl x ∧ gI G w (65 + 6 * k + 4) = Int32.ofNat (wln x) ∧ gI G w (65 + 6 * k + 5) = zb (wbg x)
/-- the row at w says: this state of n hands -/
def zML (P : zPr) (G : g_G) (w n : Nat) (S : zS) : Prop :=
  n ≤ 8 ∧ sm S ≤ 320 ∧ (∀ h, h < n → zMH P G w h (sh S h)) ∧ (∀ i, 8 * n ≤ i → i < 64 → gI G w i = 0) ∧ gI G w 64 = Int32.ofNat (sm S) ∧ ∀ k, k < sm S → zMW G w k (sw S k)
/-! codes of sums -/
def ztwo (c x y : Int32) : Int32 := if c = 1 then x + y else if c = 2 then x - y else if c = 3 then x * y else if c = 4 then (if y = 0 then 0 else x / y) else if c = 5 then (if x < y then 1 else 0) else if x = y then 1 else 0
/-- what a row of codes makes of a stack; its depth stays below 300 -/
def zrun (cd : Nat → Nat) (vl : Nat → Int32) (b : Nat) : Nat → Nat → List Int32 → Option (List Int32)
  | 0, _, _ => none
  | F + 1, i, st => if b ≤ i then some st
    else if cd i = 0 then (if st.length < 300 ∧ i + 1 < b then zrun cd vl b F (i + 2) (Int32.ofNat (cd (i + 1)) :: st) else none)
    else if 20 ≤ cd i then (if st.length < 300 ∧ cd i ≤ 26 then zrun cd vl b F (i + 1) (vl (cd i - 20) :: st) else none)
    else match st with
      | y :: x :: t => zrun cd vl b F (i + 1) (ztwo (Int32.ofNat (cd i)) x y :: t)
      | _ => none
def zcode (cd : Nat → Nat) (a b : Nat) (ev : zEv) : Prop := a ≤ b ∧ b ≤ 1080 ∧ (∀ i, i < 1080 → cd i < 100000) ∧ ∀ v me n f, zrun cd (fun k => zval k v me n f) b 1081 a [] = some [ev v me n f]
/-- what comes behind a step, out of ifs -/
def zfol (bh : Nat → Int32) (nx : Nat → Nat) (N s : Nat) : Prop := ∀ s, s < N → (∃ t, t < N ∧ bh s = Int32.ofNat t ∧ nx s = t) ∨ (bh s = -1 ∧ nx s = 40) ∨ ∃ t, t < s ∧ bh s = -2 - Int32.ofNat t ∧ nx s = nx t
/-- the model's tables say the text -/
def zMP (P : zPr) (G : g_G) (m : Nat) : Prop := zOk P ∧ gI G (m + 4) 0 = Int32.ofNat (zN P) ∧ (∀ s, s < zN P → gI G (m + 6) s = Int32.ofNat (zkd P s) ∧ gI G (m + 9) s = Int32.ofNat (zvr P s) ∧ gI G (m + 10) s = Int32.ofNat (zms P s)) ∧
  zfol (gI G (m + 11)) (znx P) (zN P) 0 ∧
  (∀ s, s < zN P → zkd P s = 10 → ((gI G (m + 12) s = -1 ∧ zth P s = znx P s) ∨ gI G (m + 12) s = Int32.ofNat (zth P s) ∧ zth P s < zN P) ∧ ((gI G (m + 13) s = -1 ∧ zot P s = znx P s) ∨ gI G (m + 13) s = Int32.ofNat (zot P s) ∧ zot P s < zN P)) ∧
  ∃ cd : Nat → Nat, (∀ i, i < 1080 → gI G (m + 5) i = Int32.ofNat (cd i)) ∧ ∀ s, s < zN P → ∀ k, k < 3 → (k = 0 ∧ (zkd P s ≤ 3 ∨ zkd P s = 7 ∨ (8 ≤ zkd P s ∧ zkd P s ≤ 10)) ∨ k = 1 ∧ zkd P s ≤ 4 ∨ k = 2 ∧ zkd P s ≤ 2) → ∃ a b, gI G (m + 7) (3 * s + k) = Int32.ofNat a ∧ gI G (m + 8) (3 * s + k) = Int32.ofNat b ∧ zcode cd a b (zex P s k)
/-- what stands of the model while it moves -/
def zMt (P : zPr) (E : g_E) (G : g_G) (m n : Nat) (o : Nat → Bool) : Prop := zMS G m ∧ zMP P G m ∧ gB E ≤ m ∧ n ≤ 8 ∧ gI G m 3 = Int32.ofNat n ∧ ∀ s, s < 40 → gI G (m + 14) s = zb (o s)
section Z31
variable {P : zPr} {E : g_E} {G : g_G} {m w n : Nat} {S : zS} {o : Nat → Bool}
theorem zML.hd (h : zML P G w n S) {j : Nat} (hj : j < n) : zMH P G w j (sh S j) := h.2.2.1 j hj
theorem zML.wd (h : zML P G w n S) {k : Nat} (hk : k < sm S) : zMW G w k (sw S k) := h.2.2.2.2.2 k hk
theorem zML.I (h : zML P G w n S) : gI G w 64 = Int32.ofNat (sm S) := h.2.2.2.2.1
theorem zMt.fr {G1 : g_G} {X : Nat → Prop} (h : zMt P E G m n o) (f : zFr X G G1) (hX : ∀ a, X a → m + 15 ≤ a) : zMt P E G1 m n o := by
  have e : ∀ k, k ≤ 14 → gI G1 (m + k) = gI G (m + k) := fun k hk => f.I (fun q => by have := hX _ q; omega)
  have e0 : gI G1 m = gI G m := e 0 (by omega)
  obtain ⟨h1, h2, h3, h4, h5, h6⟩ := h
  refine ⟨h1.fr f (f.R (fun q => by have := hX _ q; omega)), ?_, h3, h4, by rw [e0]; exact h5, fun s hs => by rw [e 14 (by omega)]; exact h6 s hs⟩
  unfold zMP at h2 ⊢
  rw [e 4 (by omega), e 6 (by omega), e 9 (by omega), e 10 (by omega), e 11 (by omega), e 12 (by omega), e 13 (by omega), e 5 (by omega), e 7 (by omega), e 8 (by omega)]
  exact h2
theorem zML.fr {G1 : g_G} {X : Nat → Prop} (h : zML P G w n S) (f : zFr X G G1) (hX : ¬ X w) : zML P G1 w n S := by
  unfold zML zMH zMW at h ⊢
  rw [f.I hX]
  exact h
theorem zm_own {h k : Nat} (hM : zMS G m) (hi : 8 * h + k < 1985) : fX4_own E m (Int32.ofNat h) (Int32.ofNat k) G = some (gI G (m + 15) (8 * h + k), G) := by
  simp only [fX4_own, ↓zm_rI, ↓zm_chk, ↓zm_r0, ↓zm_r1, ↓zm_r9, ↓zm_r22, ↓zm_r23, ↓zm_r24, ↓zm_r25, ↓zm_r26, ↓zm_r27, ↓zm_r28, ↓zm_r29, ↓zm_r30, ↓zm_r31, ↓zm_r32, ↓zm_r33, ↓zm_r34, ↓zm_r36, ↓zm_r37, ↓zm_r38, ↓zm_r39, ↓zm_r43, ↓zm_r44, ↓zm_r45, ↓zm_r49, ↓zm_r50, ↓zm_r54, ↓zm_r55, ↓zm_r61, ↓zm_r62, ↓zm_r63, ↓zm_r64, ↓zm_r65, ↓zm_r66, ↓zm_r67, ↓zm_r69, ↓zm_a1, ↓zm_a2, ↓zm_a3, ↓zm_a4, ↓zm_a5, ↓zm_a6, ↓zm_a7, ↓zm_a8, ↓zm_a9, ↓zm_a10, ↓zm_a11, ↓zm_a12, ↓zm_a13, ↓zm_a14, ↓zm_a15, ↓zm_a16, ↓zm_a17, ↓zm_a18, ↓zm_a19, ↓zm_a20, ↓zm_a21, ↓zm_a22, ↓zm_a23, ↓zm_a24, ↓zm_a25, ↓zm_a26, ↓zm_a27, ↓zm_a28, ↓zm_a29, ↓zm_a30, ↓zm_a31, ↓zm_a32, ↓zm_a33, ↓zm_a34, ↓zm_a35, zMS_I, hM, zi_8, hi]
theorem zm_put {h k : Nat} {v : Int32} (hM : zMS G m) (hB : gB E ≤ m) (hi : 8 * h + k < 1985) : fX4_put E m (Int32.ofNat h) (Int32.ofNat k) v G = some (gsI G (m + 15) (8 * h + k) v) := by
  simp only [fX4_put, ↓zm_rI, ↓zm_chk, ↓zm_r0, ↓zm_r1, ↓zm_r9, ↓zm_r22, ↓zm_r23, ↓zm_r24, ↓zm_r25, ↓zm_r26, ↓zm_r27, ↓zm_r28, ↓zm_r29, ↓zm_r30, ↓zm_r31, ↓zm_r32, ↓zm_r33, ↓zm_r34, ↓zm_r36, ↓zm_r37, ↓zm_r38, ↓zm_r39, ↓zm_r43, ↓zm_r44, ↓zm_r45, ↓zm_r49, ↓zm_r50, ↓zm_r54, ↓zm_r55, ↓zm_r61, ↓zm_r62, ↓zm_r63, ↓zm_r64, ↓zm_r65, ↓zm_r66, ↓zm_r67, ↓zm_r69, ↓zm_a1, ↓zm_a2, ↓zm_a3, ↓zm_a4, ↓zm_a5, ↓zm_a6, ↓zm_a7, ↓zm_a8, ↓zm_a9, ↓zm_a10, ↓zm_a11, ↓zm_a12, ↓zm_a13, ↓zm_a14, ↓zm_a15, ↓zm_a16, ↓zm_a17, ↓zm_a18, ↓zm_a19, ↓zm_a20, ↓zm_a21, ↓zm_a22, ↓zm_a23, ↓zm_a24, ↓zm_a25, ↓zm_a26, ↓zm_a27, ↓zm_a28, ↓zm_a29, ↓zm_a30, ↓zm_a31, ↓zm_a32, ↓zm_a33, ↓zm_a34, ↓zm_a35, zMS_I, ↓zm_pI, ↓zm_pZ, ↓zm_s3, ↓zm_s4, ↓zm_s5, ↓zm_s6, ↓zm_s7, ↓zm_s8, ↓zm_s9, ↓zm_s10, ↓zm_s11, ↓zm_s12, ↓zm_s13, ↓zm_s14, ↓zm_s15, ↓zm_s16, ↓zm_s17, ↓zm_s18, ↓zm_s19, ↓zm_s20, ↓zm_s21, ↓zm_s22, ↓zm_s23, ↓zm_s24, ↓zm_s25, ↓zm_s26, ↓zm_s27, ↓zm_s28, ↓zm_s29, ↓zm_s30, ↓zm_s31, ↓zm_s32, ↓zm_s33, ↓zm_s34, ↓zm_s35, hM, hB, zi_8, hi]
theorem zm_words (hM : zMS G m) (hL : zML P G (m + 15) n S) : fX4_words E m G = some (Int32.ofNat (sm S), G) := by
  have e : ∀ (α : Type) (K : Int32 → Option α), (gaI G 100 (some (m + 15)) 64).bind K = K (gI G (m + 15) 64) := fun α K => zm_a15 (i := 64) hM (by omega)
  simp only [fX4_words, ↓zm_rI, ↓zm_chk, ↓zm_r0, ↓zm_r1, ↓zm_r9, ↓zm_r22, ↓zm_r23, ↓zm_r24, ↓zm_r25, ↓zm_r26, ↓zm_r27, ↓zm_r28, ↓zm_r29, ↓zm_r30, ↓zm_r31, ↓zm_r32, ↓zm_r33, ↓zm_r34, ↓zm_r36, ↓zm_r37, ↓zm_r38, ↓zm_r39, ↓zm_r43, ↓zm_r44, ↓zm_r45, ↓zm_r49, ↓zm_r50, ↓zm_r54, ↓zm_r55, ↓zm_r61, ↓zm_r62, ↓zm_r63, ↓zm_r64, ↓zm_r65, ↓zm_r66, ↓zm_r67, ↓zm_r69, ↓zm_a1, ↓zm_a2, ↓zm_a3, ↓zm_a4, ↓zm_a5, ↓zm_a6, ↓zm_a7, ↓zm_a8, ↓zm_a9, ↓zm_a10, ↓zm_a11, ↓zm_a12, ↓zm_a13, ↓zm_a14, ↓zm_a15, ↓zm_a16, ↓zm_a17, ↓zm_a18, ↓zm_a19, ↓zm_a20, ↓zm_a21, ↓zm_a22, ↓zm_a23, ↓zm_a24, ↓zm_a25, ↓zm_a26, ↓zm_a27, ↓zm_a28, ↓zm_a29, ↓zm_a30, ↓zm_a31, ↓zm_a32, ↓zm_a33, ↓zm_a34, ↓zm_a35, zMS_I, hM, e, hL.I]
theorem zm_val {h k : Nat} (hT : zMt P E G m n o) (hL : zML P G (m + 15) n S) (hh : h < n) (hk : k ≤ 6) : fX4_valueOf E m (Int32.ofNat h) (Int32.ofNat k) G = some (zval k (hvr (sh S h)) (Int32.ofNat h) (Int32.ofNat n) (hfr (sh S h)), G) := by
  have hM := hT.1
  have hn := hT.2.2.2.1
  obtain ⟨d1, d2, d3, d4, d5⟩ := hL.hd hh
  unfold fX4_valueOf zval
  by_cases c : k < 4
  · rw [if_neg (show ¬ (4 : Int32) ≤ Int32.ofNat k from zi_nle (a := 4) c (by omega)), if_pos c, zm_chk hM]
    have e : (2 : Int32) + Int32.ofNat k = Int32.ofNat (2 + k) := zi_add 2 k
    rw [e, zm_own hM (by omega), Option.bind_some, d3 k c]
  · rw [if_pos (show (4 : Int32) ≤ Int32.ofNat k from zi_le (a := 4) (by omega) (by omega)), if_neg c]
    have h456 : k = 4 ∨ k = 5 ∨ k = 6 := by omega
    rcases h456 with rfl | rfl | rfl
    · rw [if_neg (show ¬ ¬ Int32.ofNat 4 = 4 by decide)]
      rfl
    · rw [if_pos (show ¬ Int32.ofNat 5 = 4 by decide), if_neg (show ¬ ¬ Int32.ofNat 5 = 5 by decide), zm_rI hM, hT.2.2.2.2.1]
      rfl
    · rw [if_pos (show ¬ Int32.ofNat 6 = 4 by decide), if_pos (show ¬ Int32.ofNat 6 = 5 by decide), zm_chk hM]
      have e6 : fX4_own E m (Int32.ofNat h) 6 G = some (gI G (m + 15) (8 * h + 6), G) := zm_own hM (k := 6) (by omega)
      rw [e6, Option.bind_some, d4]
      rfl
theorem zm_two (c x y : Int32) : fX4_two E c x y G = some (ztwo c x y, G) := by
  unfold fX4_two ztwo
  by_cases c1 : c = 1
  · rw [if_pos c1, if_pos c1]
  · rw [if_neg c1, if_neg c1]
    by_cases c2 : c = 2
    · rw [if_pos c2, if_pos c2]
    · rw [if_neg c2, if_neg c2]
      by_cases c3 : c = 3
      · rw [if_pos c3, if_pos c3]
      · rw [if_neg c3, if_neg c3]
        by_cases c4 : c = 4
        · rw [if_pos c4, if_pos c4]
          by_cases c5 : y = 0
          · rw [if_neg (fun q => q c5), if_pos c5]
          · rw [if_pos c5, if_neg c5, if_neg c5]
        · rw [if_neg c4, if_neg c4]
          by_cases c6 : c = 5
          · rw [if_pos c6, if_pos c6]
            by_cases c7 : x < y
            · rw [if_pos c7, if_neg (by rw [Int32.not_le]; exact c7)]
            · rw [if_neg c7, if_pos (by rw [← Int32.not_lt]; exact c7)]
          · rw [if_neg c6, if_neg c6]
            by_cases c8 : x = y
            · rw [if_pos c8, if_neg (fun q => q c8)]
            · rw [if_neg c8, if_pos c8]
end Z31
