/-! THE PLAIN LAW, 35: which moves there are, in the model -/
set_option maxRecDepth 100000
/-- by a choice that is told -/
def zcho (P : zPr) (n r : Nat) (S : zS) (h o : Nat) (nc : Option Nat) : Bool :=
  if zK P S h = 4 then (nc.isNone || decide (nc = some o))
  else if zK P S h ≤ 2 ∧ zmay P n r S h = false ∧ zK P S (zto P n S h) = 4 then (nc.isNone || decide (nc = some h)) else true
section Z35
variable {P : zPr} {E : g_E} {G : g_G} {m w n r : Nat} {S : zS} {o : Nat → Bool}
theorem zat_own {h : Nat} (hM : zMS G m) (hL : zML P G (m + 15) n S) (hh : h < n) : fX4_own E m (Int32.ofNat h) 0 G = some (zat P (sh S h), G) := by
  have := zm_own (E := E) (h := h) (k := 0) hM (by have := hL.1; omega)
  rw [← (hL.hd hh).1]
  exact this
theorem zst_own {h : Nat} (hM : zMS G m) (hL : zML P G (m + 15) n S) (hh : h < n) : fX4_own E m (Int32.ofNat h) 1 G = some (zb (hst (sh S h)), G) := by
  have := zm_own (E := E) (h := h) (k := 1) hM (by have := hL.1; omega)
  rw [← (hL.hd hh).2.1]
  exact this
theorem zat_m1 {H : zH} (hN : zN P ≤ 40) : (zat P H = -1) = (¬ hat H < zN P) := zsp_m1 (s := hat H) hN
theorem zat_s {H : zH} (ha : hat H < zN P) : zat P H = Int32.ofNat (hat H) := if_pos ha
theorem zm_isAt {h k : Nat} (hT : zMt P E G m n o) (hL : zML P G (m + 15) n S) (hh : h < n) (hk : k < 100) : fX4_isAt E m (Int32.ofNat h) (Int32.ofNat k) G = some (zb (zisAt P (sh S h) k), G) := by
  have hM := hT.1
  have hP := hT.2.1.1
  have hN := hP.1
  simp only [fX4_isAt, ↓zm_rI, ↓zm_chk, ↓zm_r0, ↓zm_r1, ↓zm_r9, ↓zm_r22, ↓zm_r23, ↓zm_r24, ↓zm_r25, ↓zm_r26, ↓zm_r27, ↓zm_r28, ↓zm_r29, ↓zm_r30, ↓zm_r31, ↓zm_r32, ↓zm_r33, ↓zm_r34, ↓zm_r36, ↓zm_r37, ↓zm_r38, ↓zm_r39, ↓zm_r43, ↓zm_r44, ↓zm_r45, ↓zm_r49, ↓zm_r50, ↓zm_r54, ↓zm_r55, ↓zm_r61, ↓zm_r62, ↓zm_r63, ↓zm_r64, ↓zm_r65, ↓zm_r66, ↓zm_r67, ↓zm_r69, ↓zm_a1, ↓zm_a2, ↓zm_a3, ↓zm_a4, ↓zm_a5, ↓zm_a6, ↓zm_a7, ↓zm_a8, ↓zm_a9, ↓zm_a10, ↓zm_a11, ↓zm_a12, ↓zm_a13, ↓zm_a14, ↓zm_a15, ↓zm_a16, ↓zm_a17, ↓zm_a18, ↓zm_a19, ↓zm_a20, ↓zm_a21, ↓zm_a22, ↓zm_a23, ↓zm_a24, ↓zm_a25, ↓zm_a26, ↓zm_a27, ↓zm_a28, ↓zm_a29, ↓zm_a30, ↓zm_a31, ↓zm_a32, ↓zm_a33, ↓zm_a34, ↓zm_a35, zMS_I, hM, zat_own hM hL hh, zst_own hM hL hh, Option.bind_some, zb_n0, true_or, or_true, ↓reduceIte]
  unfold zisAt
  by_cases c : hat (sh S h) < zN P
  · have hs80 : hat (sh S h) < 80 := by omega
    have ks := (hT.2.1.2.2.1 _ c).1
    have hkd := (hP.2 _ c).1
    rw [if_neg (by rw [zat_m1 hN]; exact fun q => q c), zat_s c, decide_eq_true c, Bool.true_and]
    simp only [↓zm_rI, ↓zm_chk, ↓zm_r0, ↓zm_r1, ↓zm_r9, ↓zm_r22, ↓zm_r23, ↓zm_r24, ↓zm_r25, ↓zm_r26, ↓zm_r27, ↓zm_r28, ↓zm_r29, ↓zm_r30, ↓zm_r31, ↓zm_r32, ↓zm_r33, ↓zm_r34, ↓zm_r36, ↓zm_r37, ↓zm_r38, ↓zm_r39, ↓zm_r43, ↓zm_r44, ↓zm_r45, ↓zm_r49, ↓zm_r50, ↓zm_r54, ↓zm_r55, ↓zm_r61, ↓zm_r62, ↓zm_r63, ↓zm_r64, ↓zm_r65, ↓zm_r66, ↓zm_r67, ↓zm_r69, ↓zm_a1, ↓zm_a2, ↓zm_a3, ↓zm_a4, ↓zm_a5, ↓zm_a6, ↓zm_a7, ↓zm_a8, ↓zm_a9, ↓zm_a10, ↓zm_a11, ↓zm_a12, ↓zm_a13, ↓zm_a14, ↓zm_a15, ↓zm_a16, ↓zm_a17, ↓zm_a18, ↓zm_a19, ↓zm_a20, ↓zm_a21, ↓zm_a22, ↓zm_a23, ↓zm_a24, ↓zm_a25, ↓zm_a26, ↓zm_a27, ↓zm_a28, ↓zm_a29, ↓zm_a30, ↓zm_a31, ↓zm_a32, ↓zm_a33, ↓zm_a34, ↓zm_a35, zMS_I, hM, hs80, ks]
    cases c2 : hst (sh S h)
    · rw [if_neg (by decide), Bool.not_false, Bool.true_and]
      by_cases c3 : zkd P (hat (sh S h)) = k
      · rw [if_neg (fun q => q (by rw [c3])), decide_eq_true c3]
        rfl
      · rw [if_pos (zi_ne (by omega) (by omega) c3), decide_eq_false c3]
        rfl
    · rw [if_pos rfl]
      rfl
  · rw [if_pos (by rw [zat_m1 hN]; exact c), decide_eq_false c]
    rfl
theorem zi_word (k i : Nat) : (65 : Int32) + 6 * Int32.ofNat k + Int32.ofNat i = Int32.ofNat (65 + 6 * k + i) := by
  rw [Int32.ofNat_add, Int32.ofNat_add, Int32.ofNat_mul]
  rfl
theorem zm_wd {k i : Nat} {α : Type} {K : Int32 → Option α} (hM : zMS G m) (hk : k < 320) (hi : i < 6) : (gaI G 100 (some (m + 15)) (65 + 6 * Int32.ofNat k + Int32.ofNat i)).bind K = K (gI G (m + 15) (65 + 6 * k + i)) := by
  rw [zi_word, zm_a15 hM (by omega)]
theorem zi_pair {p s t : Nat} (hp : p < 64) (ht : t < 8) : (p = 8 * s + t) = (p / 8 = s ∧ p % 8 = t) := propext (by omega)
theorem zm_lying_b3 {s t : Nat} (mk : Int32) (hT : zMt P E G m n o) (hL : zML P G (m + 15) n S) (hs : s < 8) (ht : t < 8) : ∀ d f i, sm S - i = d → i ≤ sm S → d < f → fX4_lying_b3 E f m (Int32.ofNat s) (Int32.ofNat t) mk (Int32.ofNat i) G = some (znum (zfirst (sw S) (8 * s + t) mk d i), G)
  | d, f, i, hd, hi, hf => by
    obtain ⟨f, rfl⟩ := z_suc hf
    have hM := hT.1
    have hm := hL.2.1
    rw [fX4_lying_b3]
    simp only [↓zm_rI, ↓zm_chk, ↓zm_r0, ↓zm_r1, ↓zm_r9, ↓zm_r22, ↓zm_r23, ↓zm_r24, ↓zm_r25, ↓zm_r26, ↓zm_r27, ↓zm_r28, ↓zm_r29, ↓zm_r30, ↓zm_r31, ↓zm_r32, ↓zm_r33, ↓zm_r34, ↓zm_r36, ↓zm_r37, ↓zm_r38, ↓zm_r39, ↓zm_r43, ↓zm_r44, ↓zm_r45, ↓zm_r49, ↓zm_r50, ↓zm_r54, ↓zm_r55, ↓zm_r61, ↓zm_r62, ↓zm_r63, ↓zm_r64, ↓zm_r65, ↓zm_r66, ↓zm_r67, ↓zm_r69, ↓zm_a1, ↓zm_a2, ↓zm_a3, ↓zm_a4, ↓zm_a5, ↓zm_a6, ↓zm_a7, ↓zm_a8, ↓zm_a9, ↓zm_a10, ↓zm_a11, ↓zm_a12, ↓zm_a13, ↓zm_a14, ↓zm_a15, ↓zm_a16, ↓zm_a17, ↓zm_a18, ↓zm_a19, ↓zm_a20, ↓zm_a21, ↓zm_a22, ↓zm_a23, ↓zm_a24, ↓zm_a25, ↓zm_a26, ↓zm_a27, ↓zm_a28, ↓zm_a29, ↓zm_a30, ↓zm_a31, ↓zm_a32, ↓zm_a33, ↓zm_a34, ↓zm_a35, zMS_I, hM, zm_words hM hL, Option.bind_some, fX4_wordAt]
    cases d with
    | zero =>
      rw [if_pos (zi_le (by omega) (by omega))]
      rfl
    | succ d =>
      obtain ⟨w1, w2, w3, w4, w5, w6, w7, w8⟩ := hL.wd (k := i) (by omega)
      have i3 : i < 320 := by omega
      have ih := zm_lying_b3 mk hT hL hs ht d f (i + 1) (by omega) (by omega) (by omega)
      have e0 : ∀ (α : Type) (K : Int32 → Option α), (gaI G 100 (some (m + 15)) (65 + 6 * Int32.ofNat i + 0)).bind K = K (gI G (m + 15) (65 + 6 * i)) := fun α K => zm_wd (i := 0) hM i3 (by omega)
      have e1 : ∀ (α : Type) (K : Int32 → Option α), (gaI G 100 (some (m + 15)) (65 + 6 * Int32.ofNat i + 1)).bind K = K (gI G (m + 15) (65 + 6 * i + 1)) := fun α K => zm_wd (i := 1) hM i3 (by omega)
      have e2 : ∀ (α : Type) (K : Int32 → Option α), (gaI G 100 (some (m + 15)) (65 + 6 * Int32.ofNat i + 2)).bind K = K (gI G (m + 15) (65 + 6 * i + 2)) := fun α K => zm_wd (i := 2) hM i3 (by omega)
      rw [if_neg (zi_nle (by omega) (by omega)), zfirst_succ]
      simp only [↓zm_rI, ↓zm_chk, ↓zm_r0, ↓zm_r1, ↓zm_r9, ↓zm_r22, ↓zm_r23, ↓zm_r24, ↓zm_r25, ↓zm_r26, ↓zm_r27, ↓zm_r28, ↓zm_r29, ↓zm_r30, ↓zm_r31, ↓zm_r32, ↓zm_r33, ↓zm_r34, ↓zm_r36, ↓zm_r37, ↓zm_r38, ↓zm_r39, ↓zm_r43, ↓zm_r44, ↓zm_r45, ↓zm_r49, ↓zm_r50, ↓zm_r54, ↓zm_r55, ↓zm_r61, ↓zm_r62, ↓zm_r63, ↓zm_r64, ↓zm_r65, ↓zm_r66, ↓zm_r67, ↓zm_r69, ↓zm_a1, ↓zm_a2, ↓zm_a3, ↓zm_a4, ↓zm_a5, ↓zm_a6, ↓zm_a7, ↓zm_a8, ↓zm_a9, ↓zm_a10, ↓zm_a11, ↓zm_a12, ↓zm_a13, ↓zm_a14, ↓zm_a15, ↓zm_a16, ↓zm_a17, ↓zm_a18, ↓zm_a19, ↓zm_a20, ↓zm_a21, ↓zm_a22, ↓zm_a23, ↓zm_a24, ↓zm_a25, ↓zm_a26, ↓zm_a27, ↓zm_a28, ↓zm_a29, ↓zm_a30, ↓zm_a31, ↓zm_a32, ↓zm_a33, ↓zm_a34, ↓zm_a35, zMS_I, hM, e0, e1, e2, w3, w4, w5, fX4_lying_b61, zi_inc, ih, zi_eq (show wpr (sw S i) / 8 < 2147483648 by omega) (show s < 2147483648 by omega), zi_eq (show wpr (sw S i) % 8 < 2147483648 by omega) (show t < 2147483648 by omega)]
      by_cases c1 : wpr (sw S i) / 8 = s
      · rw [if_neg (fun q => q c1)]
        by_cases c2 : wpr (sw S i) % 8 = t
        · rw [if_neg (fun q => q c2)]
          by_cases c3 : wmk (sw S i) = mk
          · rw [if_neg (fun q => q c3), if_pos ⟨by omega, c3⟩]
            rfl
          · rw [if_pos c3, if_neg (fun q => c3 q.2)]
        · rw [if_pos c2, if_neg (fun q => c2 (by omega))]
      · rw [if_pos c1, if_neg (fun q => c1 (by omega))]
theorem zm_lying {s t : Nat} (mk : Int32) (hT : zMt P E G m n o) (hL : zML P G (m + 15) n S) (hs : s < 8) (ht : t < 8) : fX4_lying E m (Int32.ofNat s) (Int32.ofNat t) mk G = some (znum (zfnd S s t mk), G) :=
  zm_lying_b3 mk hT hL hs ht (sm S) gFU 0 (by omega) (by omega) (z_F _ (by have := hL.2.1; omega))
theorem zb_1 (b : Bool) : (zb b = 1) = (b = true) := by cases b <;> decide
theorem zi_add0 (x : Int32) : x + 0 = x := Int32.add_zero x
theorem zm_sent_b5 {s t : Nat} (hT : zMt P E G m n o) (hL : zML P G (m + 15) n S) (hs : s < 8) (ht : t < 8) : ∀ d f i, sm S - i = d → i ≤ sm S → d < f → fX4_sent_b5 E f m (Int32.ofNat s) (Int32.ofNat t) (Int32.ofNat (zsent (sw S) (8 * s + t) i)) (Int32.ofNat i) G = some (Int32.ofNat (zsent (sw S) (8 * s + t) (sm S)), G)
  | d, f, i, hd, hi, hf => by
    obtain ⟨f, rfl⟩ := z_suc hf
    have hM := hT.1
    have hm := hL.2.1
    rw [fX4_sent_b5]
    simp only [↓zm_rI, ↓zm_chk, ↓zm_r0, ↓zm_r1, ↓zm_r9, ↓zm_r22, ↓zm_r23, ↓zm_r24, ↓zm_r25, ↓zm_r26, ↓zm_r27, ↓zm_r28, ↓zm_r29, ↓zm_r30, ↓zm_r31, ↓zm_r32, ↓zm_r33, ↓zm_r34, ↓zm_r36, ↓zm_r37, ↓zm_r38, ↓zm_r39, ↓zm_r43, ↓zm_r44, ↓zm_r45, ↓zm_r49, ↓zm_r50, ↓zm_r54, ↓zm_r55, ↓zm_r61, ↓zm_r62, ↓zm_r63, ↓zm_r64, ↓zm_r65, ↓zm_r66, ↓zm_r67, ↓zm_r69, ↓zm_a1, ↓zm_a2, ↓zm_a3, ↓zm_a4, ↓zm_a5, ↓zm_a6, ↓zm_a7, ↓zm_a8, ↓zm_a9, ↓zm_a10, ↓zm_a11, ↓zm_a12, ↓zm_a13, ↓zm_a14, ↓zm_a15, ↓zm_a16, ↓zm_a17, ↓zm_a18, ↓zm_a19, ↓zm_a20, ↓zm_a21, ↓zm_a22, ↓zm_a23, ↓zm_a24, ↓zm_a25, ↓zm_a26, ↓zm_a27, ↓zm_a28, ↓zm_a29, ↓zm_a30, ↓zm_a31, ↓zm_a32, ↓zm_a33, ↓zm_a34, ↓zm_a35, zMS_I, hM, zm_words hM hL, Option.bind_some, fX4_wordAt]
    cases d with
    | zero =>
      obtain rfl : i = sm S := by omega
      rw [if_pos (zi_le (by omega) (by omega))]
    | succ d =>
      obtain ⟨w1, w2, w3, w4, w5, w6, w7, w8⟩ := hL.wd (k := i) (by omega)
      have i3 : i < 320 := by omega
      have ih := zm_sent_b5 hT hL hs ht d f (i + 1) (by omega) (by omega) (by omega)
      rw [zsent_succ] at ih
      have e0 : ∀ (α : Type) (K : Int32 → Option α), (gaI G 100 (some (m + 15)) (65 + 6 * Int32.ofNat i + 0)).bind K = K (gI G (m + 15) (65 + 6 * i)) := fun α K => zm_wd (i := 0) hM i3 (by omega)
      have e0' : ∀ (α : Type) (K : Int32 → Option α), (gaI G 100 (some (m + 15)) (65 + 6 * Int32.ofNat i)).bind K = K (gI G (m + 15) (65 + 6 * i)) := fun α K => by
        have := e0 α K
        rwa [zi_add0] at this
      have e1 : ∀ (α : Type) (K : Int32 → Option α), (gaI G 100 (some (m + 15)) (65 + 6 * Int32.ofNat i + 1)).bind K = K (gI G (m + 15) (65 + 6 * i + 1)) := fun α K => zm_wd (i := 1) hM i3 (by omega)
      have e5 : ∀ (α : Type) (K : Int32 → Option α), (gaI G 100 (some (m + 15)) (65 + 6 * Int32.ofNat i + 5)).bind K = K (gI G (m + 15) (65 + 6 * i + 5)) := fun α K => zm_wd (i := 5) hM i3 (by omega)
      rw [if_neg (zi_nle (by omega) (by omega))]
      simp only [↓zm_rI, ↓zm_chk, ↓zm_r0, ↓zm_r1, ↓zm_r9, ↓zm_r22, ↓zm_r23, ↓zm_r24, ↓zm_r25, ↓zm_r26, ↓zm_r27, ↓zm_r28, ↓zm_r29, ↓zm_r30, ↓zm_r31, ↓zm_r32, ↓zm_r33, ↓zm_r34, ↓zm_r36, ↓zm_r37, ↓zm_r38, ↓zm_r39, ↓zm_r43, ↓zm_r44, ↓zm_r45, ↓zm_r49, ↓zm_r50, ↓zm_r54, ↓zm_r55, ↓zm_r61, ↓zm_r62, ↓zm_r63, ↓zm_r64, ↓zm_r65, ↓zm_r66, ↓zm_r67, ↓zm_r69, ↓zm_a1, ↓zm_a2, ↓zm_a3, ↓zm_a4, ↓zm_a5, ↓zm_a6, ↓zm_a7, ↓zm_a8, ↓zm_a9, ↓zm_a10, ↓zm_a11, ↓zm_a12, ↓zm_a13, ↓zm_a14, ↓zm_a15, ↓zm_a16, ↓zm_a17, ↓zm_a18, ↓zm_a19, ↓zm_a20, ↓zm_a21, ↓zm_a22, ↓zm_a23, ↓zm_a24, ↓zm_a25, ↓zm_a26, ↓zm_a27, ↓zm_a28, ↓zm_a29, ↓zm_a30, ↓zm_a31, ↓zm_a32, ↓zm_a33, ↓zm_a34, ↓zm_a35, zMS_I, hM, e0', e1, e5, w3, w4, w8, fX4_sent_b64, fX4_sent_b65, zi_inc, zi_add0, zb_n0, zi_eq (show wpr (sw S i) / 8 < 2147483648 by omega) (show s < 2147483648 by omega), zi_eq (show wpr (sw S i) % 8 < 2147483648 by omega) (show t < 2147483648 by omega)]
      by_cases c1 : wpr (sw S i) / 8 = s
      · rw [if_neg (fun q => q c1)]
        by_cases c2 : wpr (sw S i) % 8 = t
        · rw [if_neg (fun q => q c2)]
          cases c3 : wbg (sw S i)
          · rw [c3, if_pos ⟨by omega, rfl⟩] at ih
            rw [if_neg (by decide)]
            exact ih
          · rw [c3, if_neg (by simp)] at ih
            rw [if_pos rfl]
            exact ih
        · rw [if_neg (fun q => c2 (by omega))] at ih
          rw [if_pos c2]
          exact ih
      · rw [if_neg (fun q => c1 (by omega))] at ih
        rw [if_pos c1]
        exact ih
theorem zm_sent {s t : Nat} (hT : zMt P E G m n o) (hL : zML P G (m + 15) n S) (hs : s < 8) (ht : t < 8) : fX4_sent E m (Int32.ofNat s) (Int32.ofNat t) G = some (Int32.ofNat (zsent (sw S) (8 * s + t) (sm S)), G) :=
  zm_sent_b5 hT hL hs ht (sm S) gFU 0 (by omega) (by omega) (z_F _ (by have := hL.2.1; omega))
theorem zi_or0 (x : Int32) : x ||| 0 = x := Int32.or_zero
theorem zm_begun_b4 {s : Nat} (hT : zMt P E G m n o) (hL : zML P G (m + 15) n S) (hs : s < 8) : ∀ d f i, sm S - i = d → i ≤ sm S → d < f → fX4_begun_b4 E f m (Int32.ofNat s) (zbgn (sw S) s i) (Int32.ofNat i) G = some (zbgn (sw S) s (sm S), G)
  | d, f, i, hd, hi, hf => by
    obtain ⟨f, rfl⟩ := z_suc hf
    have hM := hT.1
    have hm := hL.2.1
    rw [fX4_begun_b4]
    simp only [↓zm_rI, ↓zm_chk, ↓zm_r0, ↓zm_r1, ↓zm_r9, ↓zm_r22, ↓zm_r23, ↓zm_r24, ↓zm_r25, ↓zm_r26, ↓zm_r27, ↓zm_r28, ↓zm_r29, ↓zm_r30, ↓zm_r31, ↓zm_r32, ↓zm_r33, ↓zm_r34, ↓zm_r36, ↓zm_r37, ↓zm_r38, ↓zm_r39, ↓zm_r43, ↓zm_r44, ↓zm_r45, ↓zm_r49, ↓zm_r50, ↓zm_r54, ↓zm_r55, ↓zm_r61, ↓zm_r62, ↓zm_r63, ↓zm_r64, ↓zm_r65, ↓zm_r66, ↓zm_r67, ↓zm_r69, ↓zm_a1, ↓zm_a2, ↓zm_a3, ↓zm_a4, ↓zm_a5, ↓zm_a6, ↓zm_a7, ↓zm_a8, ↓zm_a9, ↓zm_a10, ↓zm_a11, ↓zm_a12, ↓zm_a13, ↓zm_a14, ↓zm_a15, ↓zm_a16, ↓zm_a17, ↓zm_a18, ↓zm_a19, ↓zm_a20, ↓zm_a21, ↓zm_a22, ↓zm_a23, ↓zm_a24, ↓zm_a25, ↓zm_a26, ↓zm_a27, ↓zm_a28, ↓zm_a29, ↓zm_a30, ↓zm_a31, ↓zm_a32, ↓zm_a33, ↓zm_a34, ↓zm_a35, zMS_I, hM, zm_words hM hL, Option.bind_some, fX4_wordAt]
    cases d with
    | zero =>
      obtain rfl : i = sm S := by omega
      rw [if_pos (zi_le (by omega) (by omega))]
    | succ d =>
      obtain ⟨w1, w2, w3, w4, w5, w6, w7, w8⟩ := hL.wd (k := i) (by omega)
      have i3 : i < 320 := by omega
      have ih := zm_begun_b4 hT hL hs d f (i + 1) (by omega) (by omega) (by omega)
      rw [zbgn_succ] at ih
      have e0 : ∀ (α : Type) (K : Int32 → Option α), (gaI G 100 (some (m + 15)) (65 + 6 * Int32.ofNat i + 0)).bind K = K (gI G (m + 15) (65 + 6 * i)) := fun α K => zm_wd (i := 0) hM i3 (by omega)
      have e1 : ∀ (α : Type) (K : Int32 → Option α), (gaI G 100 (some (m + 15)) (65 + 6 * Int32.ofNat i + 1)).bind K = K (gI G (m + 15) (65 + 6 * i + 1)) := fun α K => zm_wd (i := 1) hM i3 (by omega)
      have e5 : ∀ (α : Type) (K : Int32 → Option α), (gaI G 100 (some (m + 15)) (65 + 6 * Int32.ofNat i + 5)).bind K = K (gI G (m + 15) (65 + 6 * i + 5)) := fun α K => zm_wd (i := 5) hM i3 (by omega)
      rw [if_neg (zi_nle (by omega) (by omega))]
      simp only [↓zm_rI, ↓zm_chk, ↓zm_r0, ↓zm_r1, ↓zm_r9, ↓zm_r22, ↓zm_r23, ↓zm_r24, ↓zm_r25, ↓zm_r26, ↓zm_r27, ↓zm_r28, ↓zm_r29, ↓zm_r30, ↓zm_r31, ↓zm_r32, ↓zm_r33, ↓zm_r34, ↓zm_r36, ↓zm_r37, ↓zm_r38, ↓zm_r39, ↓zm_r43, ↓zm_r44, ↓zm_r45, ↓zm_r49, ↓zm_r50, ↓zm_r54, ↓zm_r55, ↓zm_r61, ↓zm_r62, ↓zm_r63, ↓zm_r64, ↓zm_r65, ↓zm_r66, ↓zm_r67, ↓zm_r69, ↓zm_a1, ↓zm_a2, ↓zm_a3, ↓zm_a4, ↓zm_a5, ↓zm_a6, ↓zm_a7, ↓zm_a8, ↓zm_a9, ↓zm_a10, ↓zm_a11, ↓zm_a12, ↓zm_a13, ↓zm_a14, ↓zm_a15, ↓zm_a16, ↓zm_a17, ↓zm_a18, ↓zm_a19, ↓zm_a20, ↓zm_a21, ↓zm_a22, ↓zm_a23, ↓zm_a24, ↓zm_a25, ↓zm_a26, ↓zm_a27, ↓zm_a28, ↓zm_a29, ↓zm_a30, ↓zm_a31, ↓zm_a32, ↓zm_a33, ↓zm_a34, ↓zm_a35, zMS_I, hM, e0, e1, e5, w3, w4, w8, fX4_begun_b59, fX4_begun_b60, zi_inc, zi_or0, zb_1, zi_eq (show wpr (sw S i) / 8 < 2147483648 by omega) (show s < 2147483648 by omega)]
      by_cases c1 : wpr (sw S i) / 8 = s
      · rw [if_neg (fun q => q c1)]
        cases c3 : wbg (sw S i)
        · rw [c3, if_neg (by simp)] at ih
          rw [if_pos (by decide)]
          exact ih
        · rw [c3, if_pos ⟨c1, rfl⟩] at ih
          rw [if_neg (by decide)]
          exact ih
      · rw [if_neg (fun q => c1 q.1)] at ih
        rw [if_pos c1]
        exact ih
theorem zm_begun {s : Nat} (hT : zMt P E G m n o) (hL : zML P G (m + 15) n S) (hs : s < 8) : fX4_begun E m (Int32.ofNat s) G = some (zbgn (sw S) s (sm S), G) :=
  zm_begun_b4 hT hL hs (sm S) gFU 0 (by omega) (by omega) (z_F _ (by have := hL.2.1; omega))
theorem zm_areAll_b2 {k : Nat} (hT : zMt P E G m n o) (hL : zML P G (m + 15) n S) (hk : k < 100) : ∀ d f i, n - i = d → i ≤ n → d < f → zall (fun h => zisAt P (sh S h) k) i = true → fX4_areAll_b2 E f m (Int32.ofNat k) (Int32.ofNat i) G = some (zb (zallAt P n S k), G)
  | d, f, i, hd, hi, hf, ha => by
    obtain ⟨f, rfl⟩ := z_suc hf
    have hM := hT.1
    have hn := hT.2.2.2.1
    rw [fX4_areAll_b2]
    simp only [↓zm_rI, ↓zm_chk, ↓zm_r0, ↓zm_r1, ↓zm_r9, ↓zm_r22, ↓zm_r23, ↓zm_r24, ↓zm_r25, ↓zm_r26, ↓zm_r27, ↓zm_r28, ↓zm_r29, ↓zm_r30, ↓zm_r31, ↓zm_r32, ↓zm_r33, ↓zm_r34, ↓zm_r36, ↓zm_r37, ↓zm_r38, ↓zm_r39, ↓zm_r43, ↓zm_r44, ↓zm_r45, ↓zm_r49, ↓zm_r50, ↓zm_r54, ↓zm_r55, ↓zm_r61, ↓zm_r62, ↓zm_r63, ↓zm_r64, ↓zm_r65, ↓zm_r66, ↓zm_r67, ↓zm_r69, ↓zm_a1, ↓zm_a2, ↓zm_a3, ↓zm_a4, ↓zm_a5, ↓zm_a6, ↓zm_a7, ↓zm_a8, ↓zm_a9, ↓zm_a10, ↓zm_a11, ↓zm_a12, ↓zm_a13, ↓zm_a14, ↓zm_a15, ↓zm_a16, ↓zm_a17, ↓zm_a18, ↓zm_a19, ↓zm_a20, ↓zm_a21, ↓zm_a22, ↓zm_a23, ↓zm_a24, ↓zm_a25, ↓zm_a26, ↓zm_a27, ↓zm_a28, ↓zm_a29, ↓zm_a30, ↓zm_a31, ↓zm_a32, ↓zm_a33, ↓zm_a34, ↓zm_a35, zMS_I, hM, hT.2.2.2.2.1]
    unfold zallAt
    cases d with
    | zero =>
      obtain rfl : i = n := by omega
      rw [if_pos (zi_le (by omega) (by omega)), ha]
      rfl
    | succ d =>
      rw [if_neg (zi_nle (by omega) (by omega))]
      simp only [zm_isAt hT hL (show i < n by omega) hk, Option.bind_some, zi_inc, zb_n0]
      cases c : zisAt P (sh S i) k
      · rw [if_neg (by decide), zall_not (k := i) (by omega) c]
        rfl
      · rw [if_pos rfl]
        exact zm_areAll_b2 hT hL hk d f (i + 1) (by omega) (by omega) (by omega) (by rw [zall_succ, ha, c]; rfl)
theorem zm_areAll {k : Nat} (hT : zMt P E G m n o) (hL : zML P G (m + 15) n S) (hk : k < 100) : fX4_areAll E m (Int32.ofNat k) G = some (zb (zallAt P n S k), G) :=
  zm_areAll_b2 hT hL hk n gFU 0 (by omega) (by omega) (z_F _ (by have := hT.2.2.2.1; omega)) rfl
end Z35
