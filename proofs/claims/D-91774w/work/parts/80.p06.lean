/-! THE PLAIN LAW, 6: what a Life of the class does with its words -/
set_option maxRecDepth 100000
def zIn (l a : Nat) : Prop := l ≤ a ∧ a ≤ l + 10
def zP5 (G : g_G) (l w : Nat) (a b c d e : Int32) : g_G := gsI (gsI (gsI (gsI (gsI G (l + 6) w a) (l + 7) w b) (l + 8) w c) (l + 9) w d) (l + 10) w e
section Z6
variable {P : zPr} {A : Nat → Nat} {E : g_E} {G : g_G} {l n : Nat} {S : zS} {T : Nat → Int32}
theorem zP5_I {w q j : Nat} {a b c d e : Int32} : gI (zP5 G l w a b c d e) q j = if q = l + 10 ∧ j = w then e else if q = l + 9 ∧ j = w then d else if q = l + 8 ∧ j = w then c else if q = l + 7 ∧ j = w then b else if q = l + 6 ∧ j = w then a else gI G q j := rfl
theorem zP5_LS {w : Nat} {a b c d e : Int32} : zLS (zP5 G l w a b c d e) l = zLS G l := rfl
theorem zP5_fr {w : Nat} {a b c d e : Int32} {X : Nat → Prop} (hX : ∀ q, l + 6 ≤ q → q ≤ l + 10 → X q) : zFr X G (zP5 G l w a b c d e) :=
  ((((zFr.wI (hX _ (by omega) (by omega))).wI2 (hX _ (by omega) (by omega))).wI2 (hX _ (by omega) (by omega))).wI2 (hX _ (by omega) (by omega))).wI2 (hX _ (by omega) (by omega))
theorem zc_put {l' w i : Nat} (hL : zLS G l) (hL' : zLS G l') (hB : gB E ≤ l) (hj : l = l' ∨ l + 10 < l' ∨ l' + 10 < l) (hw : w < 320) (hi : i < 320) :
    fX3_put E l (Int32.ofNat w) (some l') (Int32.ofNat i) G = some (zP5 G l w (gI G (l' + 6) i) (gI G (l' + 7) i) (gI G (l' + 8) i) (gI G (l' + 9) i) (gI G (l' + 10) i)) := by
  rw [fX3_put]
  simp only [↓zl_rI, ↓zl_r3, ↓zl_r4, ↓zl_r5, ↓zl_r6, ↓zl_r7, ↓zl_r8, ↓zl_r9, ↓zl_r10, ↓zl_r11, ↓zl_r12, ↓zl_chk, ↓zl_a1, ↓zl_a2, ↓zl_a3, ↓zl_a4, ↓zl_a5, ↓zl_a6, ↓zl_a7, ↓zl_a8, ↓zl_a9, ↓zl_a10, zLS_I, ↓zl_pI, ↓zl_s1, ↓zl_s2, ↓zl_s3, ↓zl_s4, ↓zl_s5, ↓zl_s6, ↓zl_s7, ↓zl_s8, ↓zl_s9, ↓zl_s10, hL, hL', hB, hw, hi]
  have e7 : ∀ (G : g_G) (v : Int32), gI (gsI G (l + 6) w v) (l' + 7) i = gI G (l' + 7) i := fun G v => by rw [zq_II, if_neg (by omega)]
  have e86 : ∀ (G : g_G) (v : Int32), gI (gsI G (l + 6) w v) (l' + 8) i = gI G (l' + 8) i := fun G v => by rw [zq_II, if_neg (by omega)]
  have e87 : ∀ (G : g_G) (v : Int32), gI (gsI G (l + 7) w v) (l' + 8) i = gI G (l' + 8) i := fun G v => by rw [zq_II, if_neg (by omega)]
  have e96 : ∀ (G : g_G) (v : Int32), gI (gsI G (l + 6) w v) (l' + 9) i = gI G (l' + 9) i := fun G v => by rw [zq_II, if_neg (by omega)]
  have e97 : ∀ (G : g_G) (v : Int32), gI (gsI G (l + 7) w v) (l' + 9) i = gI G (l' + 9) i := fun G v => by rw [zq_II, if_neg (by omega)]
  have e98 : ∀ (G : g_G) (v : Int32), gI (gsI G (l + 8) w v) (l' + 9) i = gI G (l' + 9) i := fun G v => by rw [zq_II, if_neg (by omega)]
  have f6 : ∀ (G : g_G) (v : Int32), gI (gsI G (l + 6) w v) (l' + 10) i = gI G (l' + 10) i := fun G v => by rw [zq_II, if_neg (by omega)]
  have f7 : ∀ (G : g_G) (v : Int32), gI (gsI G (l + 7) w v) (l' + 10) i = gI G (l' + 10) i := fun G v => by rw [zq_II, if_neg (by omega)]
  have f8 : ∀ (G : g_G) (v : Int32), gI (gsI G (l + 8) w v) (l' + 10) i = gI G (l' + 10) i := fun G v => by rw [zq_II, if_neg (by omega)]
  have f9 : ∀ (G : g_G) (v : Int32), gI (gsI G (l + 9) w v) (l' + 10) i = gI G (l' + 10) i := fun G v => by rw [zq_II, if_neg (by omega)]
  simp only [e7, e86, e87, e96, e97, e98, f6, f7, f8, f9]
  rfl
/-- the words of a Life were moved about; nothing else -/
def zMv (l : Nat) (G G1 : g_G) (f : Nat → Nat) : Prop := zFr (fun a => l + 6 ≤ a ∧ a ≤ l + 10) G G1 ∧ ∀ c, 6 ≤ c → c ≤ 10 → ∀ j, gI G1 (l + c) j = gI G (l + c) (f j)
theorem zMv.put {G1 : g_G} {f : Nat → Nat} (h : zMv l G G1 f) (w i : Nat) : zMv l G (zP5 G1 l w (gI G1 (l + 6) i) (gI G1 (l + 7) i) (gI G1 (l + 8) i) (gI G1 (l + 9) i) (gI G1 (l + 10) i)) (fun j => if j = w then f i else f j) := by
  refine ⟨h.1.trans (zP5_fr fun q h1 h2 => ⟨h1, h2⟩), fun c c1 c2 j => ?_⟩
  rw [zP5_I, h.2 6 (by omega) (by omega), h.2 7 (by omega) (by omega), h.2 8 (by omega) (by omega), h.2 9 (by omega) (by omega), h.2 10 (by omega) (by omega), h.2 c c1 c2]
  by_cases hj : j = w
  · have : c = 6 ∨ c = 7 ∨ c = 8 ∨ c = 9 ∨ c = 10 := by omega
    rcases this with rfl | rfl | rfl | rfl | rfl <;> simp [hj]
  · simp [hj]
theorem zMv.ls {G1 : g_G} {f : Nat → Nat} (h : zMv l G G1 f) (hL : zLS G l) : zLS G1 l := hL.fr h.1 (h.1.R (by omega))
theorem zMv.congr {G1 : g_G} {f g : Nat → Nat} (h : zMv l G G1 f) (e : ∀ j, f j = g j) : zMv l G G1 g := ⟨h.1, fun c c1 c2 j => by rw [h.2 c c1 c2, e]⟩
theorem zHr.fr {G1 : g_G} {h : Nat} {H : zH} (k : zHr P A G l h H) (e : ∀ a, l + 1 ≤ a → a ≤ l + 5 → gI G1 a = gI G a ∧ gR G1 a = gR G a) : zHr P A G1 l h H := by
  obtain ⟨k1, k2, k3, k4, k5⟩ := k
  refine ⟨?_, ?_, fun j hj => ?_, ?_, ?_⟩
  · rw [(e (l + 1) (by omega) (by omega)).2, k1]
  · rw [(e (l + 2) (by omega) (by omega)).1, k2]
  · rw [(e (l + 3) (by omega) (by omega)).1, k3 j hj]
  · rw [(e (l + 4) (by omega) (by omega)).1, k4]
  · rw [(e (l + 5) (by omega) (by omega)).1, k5]
theorem zc_takeOut_b12 {k m : Nat} (hL : zLS G l) (hB : gB E ≤ l) (h1 : gI G l 1 = Int32.ofNat m) (hm : m < 320) : ∀ d f i G1, m - i = d → k ≤ i → i ≤ m → d < f → zMv l G G1 (fun j => if k ≤ j ∧ j < i then j + 1 else j) →
    ∃ G2, fX3_takeOut_b12 E f l (Int32.ofNat i) G1 = some G2 ∧ zMv l G G2 (fun j => if k ≤ j ∧ j < m then j + 1 else j)
  | d, f, i, G1, hd, hk, hi, hf, hM => by
    obtain ⟨f, rfl⟩ := z_suc hf
    have hL1 := hM.ls hL
    rw [fX3_takeOut_b12]
    have e1 : gI G1 l 1 = Int32.ofNat m := by rw [hM.1.I (by omega), h1]
    simp only [↓zl_rI, ↓zl_r3, ↓zl_r4, ↓zl_r5, ↓zl_r6, ↓zl_r7, ↓zl_r8, ↓zl_r9, ↓zl_r10, ↓zl_r11, ↓zl_r12, ↓zl_chk, ↓zl_a1, ↓zl_a2, ↓zl_a3, ↓zl_a4, ↓zl_a5, ↓zl_a6, ↓zl_a7, ↓zl_a8, ↓zl_a9, ↓zl_a10, zLS_I, hL1, e1]
    cases d with
    | zero =>
      obtain rfl : i = m := by omega
      exact ⟨G1, by rw [if_pos (zi_le (by omega) (by omega))], hM⟩
    | succ d =>
      obtain ⟨G2, q1, q2⟩ := zc_takeOut_b12 hL hB h1 hm d f (i + 1) _ (by omega) (by omega) (by omega) (by omega) ((hM.put i (i + 1)).congr (g := fun j => if k ≤ j ∧ j < i + 1 then j + 1 else j) (fun j => by
        by_cases c : j = i
        · rw [if_pos c, if_neg (by omega), if_pos (by omega), c]
        · rw [if_neg c]
          by_cases c2 : k ≤ j ∧ j < i
          · rw [if_pos c2, if_pos (by omega)]
          · rw [if_neg c2, if_neg (by omega)]))
      refine ⟨G2, ?_, q2⟩
      rw [if_neg (zi_nle (by omega) (by omega))]
      simp only [zi_inc, zc_put hL1 hL1 hB (Or.inl rfl) (show i < 320 by omega) (show i + 1 < 320 by omega), Option.bind_some]
      exact q1
theorem zdel_at {α : Type} (f : Nat → α) (k j : Nat) : zdel f k j = f (if k ≤ j then j + 1 else j) := by
  unfold zdel
  by_cases c : j < k
  · rw [if_pos c, if_neg (by omega)]
  · rw [if_neg c, if_pos (by omega)]
theorem zc_takeOut (hC : zCL P A G l n S T) (hB : gB E ≤ l) {k : Nat} (hk : k < sm S) : ∃ G1, fX3_takeOut E l (Int32.ofNat k) G = some G1 ∧ zCL P A G1 l n (zout S k) (zdel T k) ∧ zFr (zIn l) G G1 := by
  have hL := hC.1
  have hm := hC.m3
  obtain ⟨m, em⟩ : ∃ m, sm S = m + 1 := ⟨sm S - 1, by omega⟩
  have e1 : Int32.ofNat (sm S) - 1 = Int32.ofNat m := by rw [em, zi_dec]
  obtain ⟨G2, q1, q2⟩ := zc_takeOut_b12 (E := E) (G := gsI G l 1 (Int32.ofNat m)) (k := k) (m := m) hL hB (by rw [zq_II, if_pos ⟨rfl, rfl⟩]) (by omega) (m - k) gFU k (gsI G l 1 (Int32.ofNat m)) rfl (Nat.le_refl _) (by omega) (z_F _ (by omega)) ⟨zFr.refl _ _, fun c c1 c2 j => by simp only [show ¬ (k ≤ j ∧ j < k) by omega, ↓reduceIte]⟩
  have f0 : zFr (zIn l) G (gsI G l 1 (Int32.ofNat m)) := zFr.wI ⟨by omega, by omega⟩
  have f1 : zFr (zIn l) G G2 := f0.trans (q2.1.mono fun a ha => ⟨by omega, by omega⟩)
  refine ⟨G2, ?_, ?_, f1⟩
  · rw [fX3_takeOut]
    simp only [↓zl_rI, ↓zl_r3, ↓zl_r4, ↓zl_r5, ↓zl_r6, ↓zl_r7, ↓zl_r8, ↓zl_r9, ↓zl_r10, ↓zl_r11, ↓zl_r12, ↓zl_chk, ↓zl_a1, ↓zl_a2, ↓zl_a3, ↓zl_a4, ↓zl_a5, ↓zl_a6, ↓zl_a7, ↓zl_a8, ↓zl_a9, ↓zl_a10, zLS_I, ↓zl_pI, ↓zl_s1, ↓zl_s2, ↓zl_s3, ↓zl_s4, ↓zl_s5, ↓zl_s6, ↓zl_s7, ↓zl_s8, ↓zl_s9, ↓zl_s10, hL, hB, hC.I1, e1]
    exact q1
  · have hcol : ∀ c, 6 ≤ c → c ≤ 10 → ∀ j, j < m → gI G2 (l + c) j = gI G (l + c) (if k ≤ j then j + 1 else j) := fun c c1 c2 j hj => by
      rw [q2.2 c c1 c2, zq_II, if_neg (by omega)]
      congr 1
      dsimp only
      by_cases c3 : k ≤ j
      · rw [if_pos ⟨c3, hj⟩, if_pos c3]
      · rw [if_neg (fun q => c3 q.1), if_neg c3]
    have hlow : ∀ a, l + 1 ≤ a → a ≤ l + 5 → gI G2 a = gI G a ∧ gR G2 a = gR G a := fun a a1 a2 => by
      rw [q2.1.I (by omega), q2.1.R (by omega)]
      exact ⟨by funext j; rw [zq_II, if_neg (by omega)], rfl⟩
    refine ⟨q2.ls hL, hC.n8, by show sm S - 1 ≤ 320; omega, ?_, ?_, fun h hh => (hC.hd hh).fr hlow, fun j hj => ?_, fun j hj => ?_⟩
    · rw [q2.1.I (by omega), zq_II, if_neg (by omega), hC.I0]
    · rw [q2.1.I (by omega), zq_II, if_pos ⟨rfl, rfl⟩]
      show _ = Int32.ofNat (sm S - 1)
      rw [em]
      rfl
    · have hj : j < sm S - 1 := hj
      have hw := hC.wd (j := if k ≤ j then j + 1 else j) (by split <;> omega)
      show zWr G2 l j (zdel (sw S) k j)
      rw [zdel_at]
      refine ⟨hw.1, hw.2.1, ?_, ?_, ?_, ?_⟩
      · rw [hcol 6 (by omega) (by omega) j (by omega), hw.2.2.1]
      · rw [hcol 7 (by omega) (by omega) j (by omega), hw.2.2.2.1]
      · rw [hcol 8 (by omega) (by omega) j (by omega), hw.2.2.2.2.1]
      · rw [hcol 9 (by omega) (by omega) j (by omega), hw.2.2.2.2.2]
    · have hj : j < sm S - 1 := hj
      rw [zdel_at, hcol 10 (by omega) (by omega) j (by omega), hC.th (by split <;> omega)]
/-! a word more -/
theorem zlpos_succ (w : Nat → zW) (p m : Nat) : zlpos w p (m + 1) = if wpr (w m) ≤ p then m + 1 else zlpos w p m := rfl
theorem zlpos_le (w : Nat → zW) (p : Nat) : ∀ m, zlpos w p m ≤ m
  | 0 => Nat.le_refl 0
  | m + 1 => by
    rw [zlpos_succ]
    have := zlpos_le w p m
    split <;> omega
theorem zc_lie_b14 {p : Nat} (hC : zCL P A G l n S T) (hB : gB E ≤ l) (hp : p < 64) (hm : sm S < 320) (v3 v4 v5 v6 : Int32) : ∀ i f G1, i ≤ sm S → i < f → zMv l G G1 (fun j => if i < j ∧ j ≤ sm S then j - 1 else j) →
    ∃ G2, fX3_lie_b14 E f l v3 v4 v5 v6 (Int32.ofNat p) (Int32.ofNat i) G1 = fX3_lie_b50 E l v3 v4 v5 v6 (Int32.ofNat p) (Int32.ofNat (zlpos (sw S) p i)) G2 ∧ zMv l G G2 (fun j => if zlpos (sw S) p i < j ∧ j ≤ sm S then j - 1 else j)
  | i, f, G1, hi, hf, hM => by
    obtain ⟨f, rfl⟩ := z_suc hf
    have hL1 := hM.ls hC.1
    rw [fX3_lie_b14]
    cases i with
    | zero => exact ⟨G1, by rw [if_pos (show Int32.ofNat 0 ≤ 0 from Int32.le_refl _)]; rfl, hM⟩
    | succ i =>
      have hi2 : i < 320 := by omega
      have hw := hC.wd (j := i) (by omega)
      have hw1 := hw.1
      have e6 : gI G1 (l + 6) i = Int32.ofNat (wpr (sw S i)) := by
        rw [hM.2 6 (by omega) (by omega)]
        dsimp only
        rw [if_neg (by omega), hw.2.2.1]
      rw [if_neg (show ¬ Int32.ofNat (i + 1) ≤ 0 from zi_nle (b := 0) (by omega) (by omega))]
      simp only [↓zl_rI, ↓zl_r3, ↓zl_r4, ↓zl_r5, ↓zl_r6, ↓zl_r7, ↓zl_r8, ↓zl_r9, ↓zl_r10, ↓zl_r11, ↓zl_r12, ↓zl_chk, ↓zl_a1, ↓zl_a2, ↓zl_a3, ↓zl_a4, ↓zl_a5, ↓zl_a6, ↓zl_a7, ↓zl_a8, ↓zl_a9, ↓zl_a10, zLS_I, hL1, hi2, zi_dec, e6, zi_leq (show wpr (sw S i) < 2147483648 by omega) (show p < 2147483648 by omega)]
      rw [zlpos_succ]
      by_cases c : wpr (sw S i) ≤ p
      · rw [if_pos c, if_pos c]
        exact ⟨G1, rfl, hM⟩
      · rw [if_neg c, if_neg c]
        obtain ⟨G2, q1, q2⟩ := zc_lie_b14 hC hB hp hm v3 v4 v5 v6 i f _ (by omega) (by omega) ((hM.put (i + 1) i).congr (g := fun j => if i < j ∧ j ≤ sm S then j - 1 else j) (fun j => by
          by_cases c : j = i + 1
          · rw [if_pos c, if_neg (by omega), if_pos (by omega), c]
            omega
          · rw [if_neg c]
            by_cases c2 : i + 1 < j ∧ j ≤ sm S
            · rw [if_pos c2, if_pos (by omega)]
            · rw [if_neg c2, if_neg (by omega)]))
        refine ⟨G2, ?_, q2⟩
        simp only [zc_put hL1 hL1 hB (Or.inl rfl) (show i + 1 < 320 by omega) hi2, Option.bind_some, zi_dec2]
        exact q1
theorem zc_lie (hC : zCL P A G l n S T) (hB : gB E ≤ l) {s t : Nat} {w : zW} {th : Int32} (hp : wpr w = 8 * s + t) (h64 : wpr w < 64) (hl : 1 ≤ wln w ∧ wln w ≤ 99) (hm : sm S < 320) :
    ∃ G1, fX3_lie E l (Int32.ofNat s) (Int32.ofNat t) (wmk w) (wvl w) (wsl w) th G = some G1 ∧ zCL P A G1 l n (zlie S w) (zins T (zlpos (sw S) (wpr w) (sm S)) th) ∧ zFr (zIn l) G G1 := by
  have hL := hC.1
  have hk := zlpos_le (sw S) (wpr w) (sm S)
  obtain ⟨G2, q1, q2⟩ := zc_lie_b14 (E := E) hC hB h64 hm (wmk w) (wvl w) (wsl w) th (sm S) gFU G (Nat.le_refl _) (z_F _ (by omega)) ⟨zFr.refl _ _, fun c c1 c2 j => by simp only [show ¬ (sm S < j ∧ j ≤ sm S) by omega, ↓reduceIte]⟩
  generalize hkk : zlpos (sw S) (wpr w) (sm S) = k at *
  have hL2 := q2.ls hL
  have k3 : k < 320 := by omega
  refine ⟨gsI (zP5 G2 l k (Int32.ofNat (wpr w)) (wmk w) (wvl w) (wsl w) th) l 1 (Int32.ofNat (sm S + 1)), ?_, ?_, ?_⟩
  · rw [fX3_lie]
    have e2 : gI G2 l 1 = Int32.ofNat (sm S) := by rw [q2.1.I (by omega), hC.I1]
    simp only [↓zl_rI, ↓zl_r3, ↓zl_r4, ↓zl_r5, ↓zl_r6, ↓zl_r7, ↓zl_r8, ↓zl_r9, ↓zl_r10, ↓zl_r11, ↓zl_r12, ↓zl_chk, ↓zl_a1, ↓zl_a2, ↓zl_a3, ↓zl_a4, ↓zl_a5, ↓zl_a6, ↓zl_a7, ↓zl_a8, ↓zl_a9, ↓zl_a10, zLS_I, hL, hC.I1, zi_8, ← hp]
    rw [q1, fX3_lie_b50]
    simp only [↓zl_rI, ↓zl_r3, ↓zl_r4, ↓zl_r5, ↓zl_r6, ↓zl_r7, ↓zl_r8, ↓zl_r9, ↓zl_r10, ↓zl_r11, ↓zl_r12, ↓zl_chk, ↓zl_a1, ↓zl_a2, ↓zl_a3, ↓zl_a4, ↓zl_a5, ↓zl_a6, ↓zl_a7, ↓zl_a8, ↓zl_a9, ↓zl_a10, zLS_I, ↓zl_pI, ↓zl_s1, ↓zl_s2, ↓zl_s3, ↓zl_s4, ↓zl_s5, ↓zl_s6, ↓zl_s7, ↓zl_s8, ↓zl_s9, ↓zl_s10, hL2, hB, k3, zq_II, show ∀ x, ¬ (l = l + 6 ∧ x) by omega, show ∀ x, ¬ (l = l + 7 ∧ x) by omega, show ∀ x, ¬ (l = l + 8 ∧ x) by omega, show ∀ x, ¬ (l = l + 9 ∧ x) by omega, show ∀ x, ¬ (l = l + 10 ∧ x) by omega, ↓reduceIte, e2, zi_inc]
    rfl
  · have hcol : ∀ c, 6 ≤ c → c ≤ 10 → ∀ j, j < sm S + 1 → j ≠ k → gI (gsI (zP5 G2 l k (Int32.ofNat (wpr w)) (wmk w) (wvl w) (wsl w) th) l 1 (Int32.ofNat (sm S + 1))) (l + c) j = gI G (l + c) (if j < k then j else j - 1) := fun c c1 c2 j hj hne => by
      rw [zq_II, if_neg (by omega), zP5_I, if_neg (by omega), if_neg (by omega), if_neg (by omega), if_neg (by omega), if_neg (by omega), q2.2 c c1 c2]
      congr 1
      dsimp only
      by_cases c3 : j < k
      · rw [if_pos c3, if_neg (by omega)]
      · rw [if_neg c3, if_pos (by omega)]
    have hnew : ∀ c, 6 ≤ c → c ≤ 10 → gI (gsI (zP5 G2 l k (Int32.ofNat (wpr w)) (wmk w) (wvl w) (wsl w) th) l 1 (Int32.ofNat (sm S + 1))) (l + c) k = if c = 6 then Int32.ofNat (wpr w) else if c = 7 then wmk w else if c = 8 then wvl w else if c = 9 then wsl w else th := fun c c1 c2 => by
      rw [zq_II, if_neg (by omega), zP5_I]
      have : c = 6 ∨ c = 7 ∨ c = 8 ∨ c = 9 ∨ c = 10 := by omega
      rcases this with rfl | rfl | rfl | rfl | rfl <;> simp
    have hlow : ∀ a, l + 1 ≤ a → a ≤ l + 5 → gI (gsI (zP5 G2 l k (Int32.ofNat (wpr w)) (wmk w) (wvl w) (wsl w) th) l 1 (Int32.ofNat (sm S + 1))) a = gI G a ∧ gR (gsI (zP5 G2 l k (Int32.ofNat (wpr w)) (wmk w) (wvl w) (wsl w) th) l 1 (Int32.ofNat (sm S + 1))) a = gR G a := fun a a1 a2 =>
      ⟨by funext j; rw [zq_II, if_neg (by omega), zP5_I, if_neg (by omega), if_neg (by omega), if_neg (by omega), if_neg (by omega), if_neg (by omega), q2.1.I (by omega)], by show gR G2 a = _; rw [q2.1.R (by omega)]⟩
    refine ⟨hL2, hC.n8, by show sm S + 1 ≤ 320; omega, ?_, ?_, fun h hh => (hC.hd hh).fr hlow, fun j hj => ?_, fun j hj => ?_⟩
    · rw [zq_II, if_neg (by omega), zP5_I, if_neg (by omega), if_neg (by omega), if_neg (by omega), if_neg (by omega), if_neg (by omega), q2.1.I (by omega), hC.I0]
    · rw [zq_II, if_pos ⟨rfl, rfl⟩]
      rfl
    · have hj : j < sm S + 1 := hj
      show zWr _ l j (zins (sw S) (zlpos (sw S) (wpr w) (sm S)) w j)
      rw [hkk]
      unfold zins
      by_cases c : j = k
      · rw [if_neg (by omega), if_pos c, c]
        exact ⟨h64, hl, hnew 6 (by omega) (by omega), hnew 7 (by omega) (by omega), hnew 8 (by omega) (by omega), hnew 9 (by omega) (by omega)⟩
      · have hw := hC.wd (j := if j < k then j else j - 1) (by split <;> omega)
        have e : (if j < k then sw S j else if j = k then w else sw S (j - 1)) = sw S (if j < k then j else j - 1) := by
          by_cases c3 : j < k
          · rw [if_pos c3, if_pos c3]
          · rw [if_neg c3, if_neg c, if_neg c3]
        rw [e]
        refine ⟨hw.1, hw.2.1, ?_, ?_, ?_, ?_⟩
        · rw [hcol 6 (by omega) (by omega) j (by omega) c, hw.2.2.1]
        · rw [hcol 7 (by omega) (by omega) j (by omega) c, hw.2.2.2.1]
        · rw [hcol 8 (by omega) (by omega) j (by omega) c, hw.2.2.2.2.1]
        · rw [hcol 9 (by omega) (by omega) j (by omega) c, hw.2.2.2.2.2]
    · have hj : j < sm S + 1 := hj
      unfold zins
      by_cases c : j = k
      · rw [if_neg (by omega), if_pos c, c, hnew 10 (by omega) (by omega)]
        rfl
      · rw [hcol 10 (by omega) (by omega) j (by omega) c, hC.th (by split <;> omega)]
        by_cases c3 : j < k
        · rw [if_pos c3, if_pos c3]
        · rw [if_neg c3, if_neg c3, if_neg c]
  · exact ((q2.1.mono fun a ha => ⟨by omega, by omega⟩).trans (zP5_fr fun q h1 h2 => ⟨by omega, by omega⟩)).wI2 ⟨by omega, by omega⟩
end Z6
