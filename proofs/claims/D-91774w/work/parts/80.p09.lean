/-! THE PLAIN LAW, 9: sums of the class -/
set_option maxRecDepth 100000
def zval (k : Nat) : zEv := fun v me n f => if k < 4 then v k else if k = 4 then me else if k = 5 then n else f
def zwork (v c w : Int32) : Int32 := if c = 42 then v * w else if c = 43 then v + w else if c = 45 then v - w else if c = 47 then (if w = 0 then 0 else v / w) else if c = 60 then (if v < w then 1 else 0) else if v = w then 1 else 0
def zfold (evs : Nat → zEv) (cs : Nat → Int32) : Nat → zEv
  | 0 => evs 0
  | i + 1 => fun v me n f => zwork (zfold evs cs i v me n f) (cs i) (evs (i + 1) v me n f)
/-- a list of the JDK's: its cell, its array, how many -/
def zAL (G : g_G) (pl pe n : Nat) : Prop := gcl G pl = 17 ∧ gcl G pe = 120 ∧ gR G pl 1 = some pe ∧ gI G pl 2 = Int32.ofNat n ∧ n ≤ gln G pe ∧ gln G pe < 1000000
def zLeaf (R : Nat → Prop) (G : g_G) (a : Nat) (ev : zEv) : Prop := R a ∧ ((gcl G a = 8 ∧ ev = fun _ _ _ _ => gI G a 0) ∨ (gcl G a = 10 ∧ ∃ k, k ≤ 6 ∧ gI G a 0 = Int32.ofNat k ∧ ev = zval k))
def zRow (R : Nat → Prop) (G : g_G) (Q : Nat → zEv → Prop) (a : Nat) (ev : zEv) : Prop := R a ∧ gcl G a = 9 ∧ ∃ (pl pe sl se np : Nat) (evs : Nat → zEv) (cs : Nat → Int32), (R pl ∧ R pe ∧ R sl ∧ R se) ∧ gR G a 0 = some pl ∧ gR G a 1 = some sl ∧ zAL G pl pe (np + 1) ∧ zAL G sl se np ∧
  (∀ i, i ≤ np → ∃ b, gR G pe i = some b ∧ Q b (evs i) ∧ 8 ≤ gcl G b ∧ gcl G b ≤ 10) ∧ (∀ i, i < np → ∃ b, gR G se i = some b ∧ R b ∧ gcl G b = 20 ∧ gI G b 0 = cs i ∧ (Int32.toUInt32 (cs i)).toUInt16.toUInt32.toInt32 = cs i) ∧ ev = zfold evs cs np
def zVX (R : Nat → Prop) (G : g_G) : Nat → Nat → zEv → Prop
  | 0 => zLeaf R G
  | d + 1 => fun a ev => zLeaf R G a ev ∨ zRow R G (zVX R G d) a ev
section Z9
variable {P : zPr} {A : Nat → Nat} {E : g_E} {G : g_G} {l n : Nat} {S : zS} {T : Nat → Int32}
theorem zVX.fr {R X : Nat → Prop} {G1 : g_G} (f : zFr X G G1) (hX : ∀ a, R a → ¬ X a) : ∀ {d a : Nat} {ev : zEv}, zVX R G d a ev → zVX R G1 d a ev := by
  have hl : ∀ {a : Nat} {ev : zEv}, zLeaf R G a ev → zLeaf R G1 a ev := fun {a ev} h => by
    unfold zLeaf at h ⊢
    rw [f.cl, f.I (hX a h.1)]
    exact h
  have ha : ∀ {pl pe n : Nat}, R pl → R pe → zAL G pl pe n → zAL G1 pl pe n := fun {pl pe n} h1 h2 h => by
    unfold zAL at h ⊢
    rw [f.cl, f.ln, f.I (hX pl h1), f.R (hX pl h1)]
    exact h
  intro d
  induction d with
  | zero => exact fun {a ev} h => hl h
  | succ d ih =>
    intro a ev h
    rcases h with h | ⟨h1, h2, pl, pe, sl, se, np, evs, cs, ⟨r1, r2, r3, r4⟩, h3, h4, h5, h6, h7, h8, h9⟩
    · exact Or.inl (hl h)
    · refine Or.inr ⟨h1, by rw [f.cl, h2], pl, pe, sl, se, np, evs, cs, ⟨r1, r2, r3, r4⟩, by rw [f.R (hX a h1), h3], by rw [f.R (hX a h1), h4], ha r1 r2 h5, ha r3 r4 h6, fun i hi => ?_, fun i hi => ?_, h9⟩
      · obtain ⟨b, b1, b2, b3⟩ := h7 i hi
        exact ⟨b, by rw [f.R (hX pe r2), b1], ih b2, by rw [f.cl]; exact b3⟩
      · obtain ⟨b, b1, b2, b3, b4⟩ := h8 i hi
        exact ⟨b, by rw [f.R (hX se r4), b1], b2, by rw [f.cl, b3], by rw [f.I (hX b b2)]; exact b4⟩
theorem zVX.mono {R : Nat → Prop} : ∀ {d d' a : Nat} {ev : zEv}, d ≤ d' → zVX R G d a ev → zVX R G d' a ev
  | 0, 0, _, _, _, h => h
  | 0, _ + 1, _, _, _, h => Or.inl h
  | d + 1, 0, _, _, hd, _ => absurd hd (by omega)
  | d + 1, d' + 1, _, _, hd, h => by
    rcases h with h | ⟨h1, h2, pl, pe, sl, se, np, evs, cs, h3, h4, h5, h6, h7, h8, h9⟩
    · exact Or.inl h
    · refine Or.inr ⟨h1, h2, pl, pe, sl, se, np, evs, cs, h3, h4, h5, h6, h7, fun i hi => ?_, h9⟩
      obtain ⟨b, b1, b2, b3⟩ := h8 i hi
      exact ⟨b, b1, zVX.mono (by omega) b2, b3⟩
theorem zc_idx {i n : Nat} (hi : i < n) (hn : n < 1000000) : fJ18_checkIndex E (Int32.ofNat i) (Int32.ofNat n) G = some (Int32.ofNat i, G) := by
  simp only [fJ18_checkIndex, fJ14_checkIndex, if_neg (zi_neg (show i < 2147483648 by omega)), if_pos (zi_lt hi (by omega)), Option.bind_some]
theorem zc_get {pl pe n i : Nat} (h : zAL G pl pe n) (hi : i < n) : fJ2_get E pl (Int32.ofNat i) G = some (gR G pe i, G) := by
  obtain ⟨h1, h2, h3, h4, h5, h6⟩ := h
  have k1 : (17 : Nat) ≤ gcl G pl ∧ gcl G pl ≤ 17 := by omega
  simp only [fJ2_get, fJ2_elementData, zp_rI k1, zp_rR k1, h4, zc_idx hi (show n < 1000000 by omega), zp_chk h1, h3, zp_aR h2 (show i < gln G pe by omega) (show i < 2147483648 by omega), Option.bind_some]
theorem zc_size {pl pe n : Nat} (h : zAL G pl pe n) : fJ2_size E pl G = some (Int32.ofNat n, G) := by
  obtain ⟨h1, h2, h3, h4, h5, h6⟩ := h
  have k1 : (17 : Nat) ≤ gcl G pl ∧ gcl G pl ≤ 17 := by omega
  simp only [fJ2_size, zp_rI k1, h4]
theorem zc_works (v c w : Int32) : fX11_works E v c w G = some (zwork v c w, G) := by
  unfold fX11_works zwork
  by_cases c1 : c = 42
  · simp only [c1, ↓reduceIte]
  · rw [if_neg c1, if_neg c1]
    by_cases c2 : c = 43
    · simp only [c2, ↓reduceIte]
    · rw [if_neg c2, if_neg c2]
      by_cases c3 : c = 45
      · simp only [c3, ↓reduceIte]
      · rw [if_neg c3, if_neg c3]
        by_cases c4 : c = 47
        · rw [if_pos c4, if_pos c4]
          by_cases c5 : w = 0
          · rw [if_neg (fun q => q c5), if_pos c5]
          · rw [if_pos c5, if_neg c5, if_neg c5]
        · rw [if_neg c4, if_neg c4]
          by_cases c6 : c = 60
          · rw [if_pos c6, if_pos c6]
            by_cases c7 : v < w
            · rw [if_pos c7, if_neg (by rw [Int32.not_le]; exact c7)]
            · rw [if_neg c7, if_pos (by rw [← Int32.not_lt]; exact c7)]
          · rw [if_neg c6, if_neg c6]
            by_cases c8 : v = w
            · rw [if_pos c8, if_neg (fun q => q c8)]
            · rw [if_neg c8, if_pos c8]
theorem zc_leaf {R : Nat → Prop} {a h : Nat} {ev : zEv} (hC : zCL P A G l n S T) (hh : h < n) (hV : zLeaf R G a ev) {o : Option (Int32 × g_G)} :
    (if gcl G a = 8 then fX10_value E a (some l) (Int32.ofNat h) G else if gcl G a = 10 then fX12_value E a (some l) (Int32.ofNat h) G else o) = some (ev (hvr (sh S h)) (Int32.ofNat h) (Int32.ofNat n) (hfr (sh S h)), G) := by
  have hL := hC.1
  have h8 : h < 8 := by have := hC.n8; omega
  rcases hV with ⟨-, ⟨e1, e2⟩ | ⟨e1, k, hk, e3, e2⟩⟩
  · rw [if_pos e1, e2, fX10_value, zp_rI ⟨Nat.le_of_eq e1.symm, Nat.le_of_eq e1⟩]
  · have kk : (10 : Nat) ≤ gcl G a ∧ gcl G a ≤ 10 := by omega
    rw [if_neg (by omega), if_pos e1, e2]
    simp only [fX12_value, zp_rI kk, e3, ↓zl_rI, ↓zl_r3, ↓zl_r4, ↓zl_r5, ↓zl_r6, ↓zl_r7, ↓zl_r8, ↓zl_r9, ↓zl_r10, ↓zl_r11, ↓zl_r12, ↓zl_chk, ↓zl_a1, ↓zl_a2, ↓zl_a3, ↓zl_a4, ↓zl_a5, ↓zl_a6, ↓zl_a7, ↓zl_a8, ↓zl_a9, ↓zl_a10, zLS_I, hL, h8]
    unfold zval
    by_cases c : k < 4
    · rw [if_neg (show ¬ (4 : Int32) ≤ Int32.ofNat k from zi_nle (a := 4) c (by omega)), if_pos c]
      have hi : 4 * h + k < 32 := by omega
      simp only [zi_4, ↓zl_rI, ↓zl_r3, ↓zl_r4, ↓zl_r5, ↓zl_r6, ↓zl_r7, ↓zl_r8, ↓zl_r9, ↓zl_r10, ↓zl_r11, ↓zl_r12, ↓zl_chk, ↓zl_a1, ↓zl_a2, ↓zl_a3, ↓zl_a4, ↓zl_a5, ↓zl_a6, ↓zl_a7, ↓zl_a8, ↓zl_a9, ↓zl_a10, zLS_I, hL, hi, (hC.hd hh).2.2.1 k c]
    · rw [if_pos (show (4 : Int32) ≤ Int32.ofNat k from zi_le (a := 4) (by omega) (by omega)), if_neg c]
      have h456 : k = 4 ∨ k = 5 ∨ k = 6 := by omega
      rcases h456 with rfl | rfl | rfl
      · rfl
      · simp only [hC.I0]
        rfl
      · simp only [(hC.hd hh).2.2.2.1]
        rfl
theorem zfold_succ (evs : Nat → zEv) (cs : Nat → Int32) (i : Nat) : zfold evs cs (i + 1) = fun v me n f => zwork (zfold evs cs i v me n f) (cs i) (evs (i + 1) v me n f) := rfl
theorem zc_val_b22 {a h pl pe sl se np : Nat} {evs : Nat → zEv} {cs : Nat → Int32} {fI : Option Nat → Option Nat → Int32 → g_G → Option (Int32 × g_G)} {w : zEv → Int32} (hw : ∀ evs cs i, w (zfold evs cs (i + 1)) = zwork (w (zfold evs cs i)) (cs i) (w (evs (i + 1)))) (h9 : gcl G a = 9) (r0 : gR G a 0 = some pl) (r1 : gR G a 1 = some sl) (hp : zAL G pl pe (np + 1)) (hs : zAL G sl se np)
    (hI : ∀ i, i ≤ np → ∃ b, gR G pe i = some b ∧ fI (some b) (some l) (Int32.ofNat h) G = some (w (evs i), G) ∧ 8 ≤ gcl G b ∧ gcl G b ≤ 10) (hc : ∀ i, i < np → ∃ b, gR G se i = some b ∧ gcl G b = 20 ∧ gI G b 0 = cs i ∧ (Int32.toUInt32 (cs i)).toUInt16.toUInt32.toInt32 = cs i) :
    ∀ d f i, np - i = d → i ≤ np → d < f → fX11_value_b22 E fI f a (some l) (Int32.ofNat h) (w (zfold evs cs i)) (Int32.ofNat (i + 1)) G = some (w (zfold evs cs np), G)
  | d, f, i, hd, hi, hf => by
    obtain ⟨f, rfl⟩ := z_suc hf
    have n1 := hp.2.2.2.2.1
    have n2 := hp.2.2.2.2.2
    have k9 : (9 : Nat) ≤ gcl G a ∧ gcl G a ≤ 9 := by omega
    rw [fX11_value_b22]
    simp only [zp_rR k9, r0, zp_chk hp.1, zc_size hp, Option.bind_some]
    cases d with
    | zero =>
      obtain rfl : i = np := by omega
      rw [if_pos (zi_le (by omega) (by omega))]
    | succ d =>
      obtain ⟨b, b1, b2, b3⟩ := hI (i + 1) (by omega)
      obtain ⟨c, c1, c2, c3, c4⟩ := hc i (by omega)
      have k20 : (20 : Nat) ≤ gcl G c ∧ gcl G c ≤ 20 := by omega
      rw [if_neg (zi_nle (by omega) (by omega))]
      simp only [r1, zp_chk hs.1, zi_dec, zc_get hs (show i < np by omega), Option.bind_some, c1, zp_cast k20, zp_chk c2, fJ17_charValue, zp_rI k20, c3, c4, ↓reduceIte, zc_get hp (show i + 1 < np + 1 by omega), zi_inc]
      simp only [zp_rR k9, r0, zp_chk hp.1, zc_get hp (show i + 1 < np + 1 by omega), b1, zp_cast b3, b2, zc_works, ← hw, Option.bind_some]
      exact zc_val_b22 hw h9 r0 r1 hp hs hI hc d f (i + 1) (by omega) (by omega) (by omega)
theorem zc_val {R : Nat → Prop} {h : Nat} (hC : zCL P A G l n S T) (hh : h < n) : ∀ {d D a : Nat} {ev : zEv}, zVX R G d a ev → d ≤ D → fI_value E D (some a) (some l) (Int32.ofNat h) G = some (ev (hvr (sh S h)) (Int32.ofNat h) (Int32.ofNat n) (hfr (sh S h)), G)
  | 0, 0, a, ev, hV, _ => by
    unfold fI_value
    rw [Option.bind_some]
    exact zc_leaf hC hh hV
  | 0, D + 1, a, ev, hV, _ => by
    unfold fI_value
    rw [Option.bind_some]
    exact zc_leaf hC hh hV
  | d + 1, 0, a, ev, hV, hd => absurd hd (by omega)
  | d + 1, D + 1, a, ev, hV, hd => by
    unfold fI_value
    rw [Option.bind_some]
    rcases hV with hV | ⟨h1, h2, pl, pe, sl, se, np, evs, cs, -, r0, r1, hp, hs, hI, hc, e⟩
    · exact zc_leaf hC hh hV
    · rw [if_neg (by omega), if_neg (by omega), if_pos h2, fX11_value]
      have k9 : (9 : Nat) ≤ gcl G a ∧ gcl G a ≤ 9 := by omega
      have hI' : ∀ i, i ≤ np → ∃ b, gR G pe i = some b ∧ fI_value E D (some b) (some l) (Int32.ofNat h) G = some (evs i (hvr (sh S h)) (Int32.ofNat h) (Int32.ofNat n) (hfr (sh S h)), G) ∧ 8 ≤ gcl G b ∧ gcl G b ≤ 10 := fun i hi => by
        obtain ⟨b, b1, b2, b3⟩ := hI i hi
        exact ⟨b, b1, zc_val hC hh b2 (by omega), b3⟩
      obtain ⟨b, b1, b2, b3⟩ := hI' 0 (by omega)
      have g0 : fJ2_get E pl 0 G = some (gR G pe 0, G) := zc_get hp (i := 0) (by omega)
      simp only [zp_rR k9, r0, zp_chk hp.1, g0, Option.bind_some, b1, zp_cast b3, b2]
      rw [e]
      exact zc_val_b22 (fI := fI_value E D) (w := fun ev => ev (hvr (sh S h)) (Int32.ofNat h) (Int32.ofNat n) (hfr (sh S h))) (fun evs cs i => rfl) h2 r0 r1 hp hs hI' (fun i hi => by
        obtain ⟨b, b1, -, b3⟩ := hc i hi
        exact ⟨b, b1, b3⟩) np gFU 0 (by omega) (by omega) (z_F _ (by have := hp.2.2.2.2.1; have := hp.2.2.2.2.2; omega))
end Z9
