/-! THE PLAIN LAW, 5: a Life's number; whether two are alike -/
set_option maxRecDepth 100000
def zat (P : zPr) (H : zH) : Int32 := if hat H < zN P then Int32.ofNat (hat H) else -1
def zhv (f : Nat → Int32) : Nat → Int32 → Int32
  | 0, v => v
  | k + 1, v => 31 * zhv f k v + f k
def zhH (P : zPr) (H : zH) (v : Int32) : Int32 := zhv (hvr H) 4 (31 * (31 * v + zat P H) + htd H)
def zhs (P : zPr) (f : Nat → zH) : Nat → Int32 → Int32
  | 0, v => v
  | h + 1, v => zhH P (f h) (zhs P f h v)
def zhw (w : Nat → zW) : Nat → Int32 → Int32
  | 0, v => v
  | k + 1, v => 31 * (31 * zhw w k v + Int32.ofNat (wpr (w k))) + wvl (w k)
def zhash (P : zPr) (n : Nat) (S : zS) : Int32 := zhw (sw S) (sm S) (zhs P (sh S) n (Int32.ofNat (sm S)))
section Z5
variable {P : zPr} {A : Nat → Nat} {E : g_E} {G : g_G} {l n : Nat} {S : zS} {T : Nat → Int32}
theorem zhv_succ (f : Nat → Int32) (k : Nat) (v : Int32) : zhv f (k + 1) v = 31 * zhv f k v + f k := rfl
theorem zhs_succ (f : Nat → zH) (k : Nat) (v : Int32) : zhs P f (k + 1) v = zhH P (f k) (zhs P f k v) := rfl
theorem zhw_succ (w : Nat → zW) (k : Nat) (v : Int32) : zhw w (k + 1) v = 31 * (31 * zhw w k v + Int32.ofNat (wpr (w k))) + wvl (w k) := rfl
theorem zc_hash_b92 (hC : zCL P A G l n S T) (hB : gB E ≤ l) (v : Int32) : ∀ d f i, sm S - i = d → i ≤ sm S → d < f → fX3_hashes_b92 E f l (zhw (sw S) i v) (Int32.ofNat i) G = some (gsI G l 2 (zhw (sw S) (sm S) v))
  | d, f, i, hd, hi, hf => by
    obtain ⟨f, rfl⟩ := z_suc hf
    have hL := hC.1
    have hm := hC.m3
    rw [fX3_hashes_b92]
    simp only [↓zl_rI, ↓zl_r3, ↓zl_r4, ↓zl_r5, ↓zl_r6, ↓zl_r7, ↓zl_r8, ↓zl_r9, ↓zl_r10, ↓zl_r11, ↓zl_r12, ↓zl_chk, ↓zl_a1, ↓zl_a2, ↓zl_a3, ↓zl_a4, ↓zl_a5, ↓zl_a6, ↓zl_a7, ↓zl_a8, ↓zl_a9, ↓zl_a10, zLS_I, ↓zl_pI, ↓zl_s1, ↓zl_s2, ↓zl_s3, ↓zl_s4, ↓zl_s5, ↓zl_s6, ↓zl_s7, ↓zl_s8, ↓zl_s9, ↓zl_s10, hL, hB, hC.I1]
    cases d with
    | zero =>
      obtain rfl : i = sm S := by omega
      rw [if_pos (zi_le (by omega) (by omega))]
    | succ d =>
      have hi2 : i < 320 := by omega
      have hw := hC.wd (j := i) (by omega)
      rw [if_neg (zi_nle (by omega) (by omega))]
      simp only [↓zl_rI, ↓zl_r3, ↓zl_r4, ↓zl_r5, ↓zl_r6, ↓zl_r7, ↓zl_r8, ↓zl_r9, ↓zl_r10, ↓zl_r11, ↓zl_r12, ↓zl_chk, ↓zl_a1, ↓zl_a2, ↓zl_a3, ↓zl_a4, ↓zl_a5, ↓zl_a6, ↓zl_a7, ↓zl_a8, ↓zl_a9, ↓zl_a10, zLS_I, hL, hi2, hw.2.2.1, hw.2.2.2.2.1, zi_inc, ← zhw_succ]
      exact zc_hash_b92 hC hB v d f (i + 1) (by omega) (by omega) (by omega)
theorem zc_hash_b57 (hC : zCL P A G l n S T) {h : Nat} (hh : h < n) (K : Nat → Int32 → Int32 → g_G → Option g_G) (v : Int32) : ∀ d f i, 4 - i = d → i ≤ 4 → d < f → fX3_hashes_b57 E K f l (zhv (hvr (sh S h)) i v) (Int32.ofNat h) (Int32.ofNat i) G = K l (zhv (hvr (sh S h)) 4 v) (Int32.ofNat (h + 1)) G
  | d, f, i, hd, hi, hf => by
    obtain ⟨f, rfl⟩ := z_suc hf
    have hL := hC.1
    have h8 : h < 8 := by have := hC.n8; omega
    rw [fX3_hashes_b57]
    cases d with
    | zero =>
      obtain rfl : i = 4 := by omega
      rw [if_pos (show (4 : Int32) ≤ Int32.ofNat 4 from Int32.le_refl _), zi_inc]
    | succ d =>
      have hi2 : 4 * h + i < 32 := by omega
      rw [if_neg (show ¬ (4 : Int32) ≤ Int32.ofNat i from zi_nle (a := 4) (by omega) (by omega))]
      simp only [↓zl_rI, ↓zl_r3, ↓zl_r4, ↓zl_r5, ↓zl_r6, ↓zl_r7, ↓zl_r8, ↓zl_r9, ↓zl_r10, ↓zl_r11, ↓zl_r12, ↓zl_chk, ↓zl_a1, ↓zl_a2, ↓zl_a3, ↓zl_a4, ↓zl_a5, ↓zl_a6, ↓zl_a7, ↓zl_a8, ↓zl_a9, ↓zl_a10, zLS_I, hL, hi2, zi_4, (hC.hd hh).2.2.1 i (by omega), zi_inc, ← zhv_succ]
      exact zc_hash_b57 hC hh K v d f (i + 1) (by omega) (by omega) (by omega)
theorem zc_hash_b7 (hC : zCL P A G l n S T) (hP : zCP P A G) (hB : gB E ≤ l) (v : Int32) : ∀ d f i, n - i = d → i ≤ n → d < f → fX3_hashes_b7 E f l (zhs P (sh S) i v) (Int32.ofNat i) G = some (gsI G l 2 (zhw (sw S) (sm S) (zhs P (sh S) n v)))
  | d, f, i, hd, hi, hf => by
    obtain ⟨f, rfl⟩ := z_suc hf
    have hL := hC.1
    have hn := hC.n8
    rw [fX3_hashes_b7]
    simp only [↓zl_rI, ↓zl_r3, ↓zl_r4, ↓zl_r5, ↓zl_r6, ↓zl_r7, ↓zl_r8, ↓zl_r9, ↓zl_r10, ↓zl_r11, ↓zl_r12, ↓zl_chk, ↓zl_a1, ↓zl_a2, ↓zl_a3, ↓zl_a4, ↓zl_a5, ↓zl_a6, ↓zl_a7, ↓zl_a8, ↓zl_a9, ↓zl_a10, zLS_I, hL, hC.I0]
    cases d with
    | zero =>
      obtain rfl : i = n := by omega
      rw [if_pos (zi_le (by omega) (by omega))]
      exact zc_hash_b92 hC hB _ (sm S) gFU 0 (by omega) (by omega) (z_F _ (by have := hC.m3; omega))
    | succ d =>
      have h8 : i < 8 := by omega
      have hd := hC.hd (show i < n by omega)
      have ih := zc_hash_b7 hC hP hB v d f (i + 1) (by omega) (by omega) (by omega)
      have e : ∀ x : Int32, fX3_hashes_b57 E (fX3_hashes_b7 E f) gFU l x (Int32.ofNat i) 0 G = fX3_hashes_b7 E f l (zhv (hvr (sh S i)) 4 x) (Int32.ofNat (i + 1)) G := fun x => zc_hash_b57 hC (show i < n by omega) (fX3_hashes_b7 E f) x 4 gFU 0 (by omega) (by omega) (z_F _ (by omega))
      rw [if_neg (zi_nle (by omega) (by omega))]
      simp only [↓zl_rI, ↓zl_r3, ↓zl_r4, ↓zl_r5, ↓zl_r6, ↓zl_r7, ↓zl_r8, ↓zl_r9, ↓zl_r10, ↓zl_r11, ↓zl_r12, ↓zl_chk, ↓zl_a1, ↓zl_a2, ↓zl_a3, ↓zl_a4, ↓zl_a5, ↓zl_a6, ↓zl_a7, ↓zl_a8, ↓zl_a9, ↓zl_a10, zLS_I, hL, h8, hd.1, fX3_hashes_b41, hd.2.2.2.2, e]
      rw [zhs_succ] at ih
      unfold zhH zat at ih
      by_cases c : hat (sh S i) < zN P
      · have q := hP.2.2 _ c
        rw [if_pos c] at ih
        simp only [zadr_s c, reduceCtorEq, not_false_eq_true, ↓reduceIte, zp_rI q.1, q.2.2.1]
        exact ih
      · rw [if_neg c] at ih
        have e : zadr P A (hat (sh S i)) = none := if_neg c
        simp only [e, not_true_eq_false, ↓reduceIte]
        exact ih
theorem zc_hash (hC : zCL P A G l n S T) (hP : zCP P A G) (hB : gB E ≤ l) : fX3_hashes E l G = some (gsI G l 2 (zhash P n S)) := by
  have hL := hC.1
  rw [fX3_hashes]
  simp only [↓zl_rI, ↓zl_r3, ↓zl_r4, ↓zl_r5, ↓zl_r6, ↓zl_r7, ↓zl_r8, ↓zl_r9, ↓zl_r10, ↓zl_r11, ↓zl_r12, ↓zl_chk, ↓zl_a1, ↓zl_a2, ↓zl_a3, ↓zl_a4, ↓zl_a5, ↓zl_a6, ↓zl_a7, ↓zl_a8, ↓zl_a9, ↓zl_a10, zLS_I, hL, hC.I1]
  exact zc_hash_b7 hC hP hB _ n gFU 0 (by omega) (by omega) (z_F _ (by have := hC.n8; omega))
/-! alike -/
theorem zhv_congr {f g : Nat → Int32} : ∀ {k : Nat} {v : Int32}, (∀ j, j < k → f j = g j) → zhv f k v = zhv g k v
  | 0, _, _ => rfl
  | k + 1, v, h => by rw [zhv_succ, zhv_succ, zhv_congr (fun j hj => h j (by omega)), h k (by omega)]
theorem zhw_congr {f g : Nat → zW} : ∀ {k : Nat} {v : Int32}, (∀ j, j < k → f j = g j) → zhw f k v = zhw g k v
  | 0, _, _ => rfl
  | k + 1, v, h => by rw [zhw_succ, zhw_succ, zhw_congr (fun j hj => h j (by omega)), h k (by omega)]
theorem zlikeH_iff {H J : zH} : zlikeH H J = true ↔ hat H = hat J ∧ hst H = hst J ∧ hfr H = hfr J ∧ htd H = htd J ∧ ∀ k, k < 4 → hvr H k = hvr J k := by
  unfold zlikeH
  rw [Bool.and_eq_true, zall_iff]
  simp only [Bool.and_eq_true, decide_eq_true_eq, and_assoc]
theorem zhs_congr {f g : Nat → zH} : ∀ {k : Nat} {v : Int32}, (∀ j, j < k → zlikeH (f j) (g j) = true) → zhs P f k v = zhs P g k v
  | 0, _, _ => rfl
  | k + 1, v, h => by
    obtain ⟨h1, -, -, h2, h3⟩ := zlikeH_iff.1 (h k (by omega))
    rw [zhs_succ, zhs_succ, zhs_congr (fun j hj => h j (by omega))]
    unfold zhH zat
    rw [h1, h2]
    exact zhv_congr h3
theorem zlike_iff {S S' : zS} : zlike n S S' = true ↔ sm S = sm S' ∧ (∀ h, h < n → zlikeH (sh S h) (sh S' h) = true) ∧ ∀ k, k < sm S → sw S k = sw S' k := by
  unfold zlike
  rw [Bool.and_eq_true, Bool.and_eq_true, zall_iff, zall_iff]
  simp only [decide_eq_true_eq, and_assoc]
theorem zlike_hash {S S' : zS} (h : zlike n S S' = true) : zhash P n S = zhash P n S' := by
  obtain ⟨h1, h2, h3⟩ := zlike_iff.1 h
  unfold zhash
  rw [← h1, zhs_congr h2, zhw_congr h3]
theorem wsl_inj {w x : zW} (hw : 1 ≤ wln w ∧ wln w ≤ 99) (hx : 1 ≤ wln x ∧ wln x ≤ 99) : (wsl w = wsl x) = (wln w = wln x ∧ wbg w = wbg x) := by
  refine propext ⟨fun q => ?_, fun q => by unfold wsl; rw [q.1, q.2]⟩
  have e : (wbg w = true) = (wbg x = true) := by rw [← wsl_pos hw, ← wsl_pos hx, q]
  have e2 : wbg w = wbg x := Bool.eq_iff_iff.2 (by rw [e])
  refine ⟨?_, e2⟩
  unfold wsl at q
  rw [← e2] at q
  cases c : wbg w
  · rw [c, if_neg (by decide), if_neg (by decide)] at q
    exact zi_inj (by omega) (by omega) q
  · rw [c, if_pos rfl, if_pos rfl, Int32.neg_inj] at q
    exact zi_inj (by omega) (by omega) q
theorem wW_eq {w x : zW} : (w = x) = (wpr w = wpr x ∧ wmk w = wmk x ∧ wvl w = wvl x ∧ wln w = wln x ∧ wbg w = wbg x) := by
  obtain ⟨a, b, c, d, e⟩ := w
  obtain ⟨a', b', c', d', e'⟩ := x
  simp [wpr, wmk, wvl, wln, wbg]
theorem zc_like_b142 {l' : Nat} {S' : zS} {T' : Nat → Int32} (hC : zCL P A G l n S T) (hC' : zCL P A G l' n S' T') (hm : sm S = sm S') : ∀ d f i, sm S - i = d → i ≤ sm S → d < f → zall (fun k => decide (sw S k = sw S' k)) i = true → fX3_isLike_b142 E f l (some l') (Int32.ofNat i) G = some (zb (zall (fun k => decide (sw S k = sw S' k)) (sm S)), G)
  | d, f, i, hd, hi, hf, ha => by
    obtain ⟨f, rfl⟩ := z_suc hf
    have hL := hC.1
    have hL' := hC'.1
    have hm3 := hC.m3
    rw [fX3_isLike_b142]
    simp only [↓zl_rI, ↓zl_r3, ↓zl_r4, ↓zl_r5, ↓zl_r6, ↓zl_r7, ↓zl_r8, ↓zl_r9, ↓zl_r10, ↓zl_r11, ↓zl_r12, ↓zl_chk, ↓zl_a1, ↓zl_a2, ↓zl_a3, ↓zl_a4, ↓zl_a5, ↓zl_a6, ↓zl_a7, ↓zl_a8, ↓zl_a9, ↓zl_a10, zLS_I, hL, hC.I1]
    cases d with
    | zero =>
      obtain rfl : i = sm S := by omega
      rw [if_pos (zi_le (by omega) (by omega)), ha]
      rfl
    | succ d =>
      have hi2 : i < 320 := by omega
      have hw := hC.wd (j := i) (by omega)
      have hw' := hC'.wd (j := i) (by omega)
      have hw1 := hw.1
      have hw1' := hw'.1
      have ih := zc_like_b142 hC hC' hm d f (i + 1) (by omega) (by omega) (by omega)
      rw [if_neg (zi_nle (by omega) (by omega))]
      simp only [↓zl_rI, ↓zl_r3, ↓zl_r4, ↓zl_r5, ↓zl_r6, ↓zl_r7, ↓zl_r8, ↓zl_r9, ↓zl_r10, ↓zl_r11, ↓zl_r12, ↓zl_chk, ↓zl_a1, ↓zl_a2, ↓zl_a3, ↓zl_a4, ↓zl_a5, ↓zl_a6, ↓zl_a7, ↓zl_a8, ↓zl_a9, ↓zl_a10, zLS_I, hL, hL', hi2, hw.2.2.1, hw.2.2.2.1, hw.2.2.2.2.1, hw.2.2.2.2.2, hw'.2.2.1, hw'.2.2.2.1, hw'.2.2.2.2.1, hw'.2.2.2.2.2, zi_eq (show wpr (sw S i) < 2147483648 by omega) (show wpr (sw S' i) < 2147483648 by omega), wsl_inj hw.2.1 hw'.2.1, zi_inc]
      by_cases c : sw S i = sw S' i
      · have c2 := c
        rw [wW_eq] at c2
        rw [if_neg (fun q => q c2.1), if_neg (fun q => q c2.2.1), if_neg (fun q => q c2.2.2.1), if_pos c2.2.2.2]
        exact ih (by rw [zall_succ, ha]; simp [c])
      · rw [zall_not (k := i) (by omega) (by simp [c])]
        rw [wW_eq] at c
        by_cases q1 : wpr (sw S i) = wpr (sw S' i)
        · rw [if_neg (fun q => q q1)]
          by_cases q2 : wmk (sw S i) = wmk (sw S' i)
          · rw [if_neg (fun q => q q2)]
            by_cases q3 : wvl (sw S i) = wvl (sw S' i)
            · rw [if_neg (fun q => q q3), if_neg (fun q => c ⟨q1, q2, q3, q⟩)]
              rfl
            · rw [if_pos q3]; rfl
          · rw [if_pos q2]; rfl
        · rw [if_pos q1]; rfl
theorem zc_like_b98 {l' : Nat} {S' : zS} {T' : Nat → Int32} (hC : zCL P A G l n S T) (hC' : zCL P A G l' n S' T') {h : Nat} (hh : h < n) (K : Nat → Option Nat → Int32 → g_G → Option (Int32 × g_G)) : ∀ d f i, 4 - i = d → i ≤ 4 → d < f → zall (fun k => decide (hvr (sh S h) k = hvr (sh S' h) k)) i = true →
    fX3_isLike_b98 E K f l (some l') (Int32.ofNat h) (Int32.ofNat i) G = if zall (fun k => decide (hvr (sh S h) k = hvr (sh S' h) k)) 4 = true then K l (some l') (Int32.ofNat (h + 1)) G else some (0, G)
  | d, f, i, hd, hi, hf, ha => by
    obtain ⟨f, rfl⟩ := z_suc hf
    have hL := hC.1
    have hL' := hC'.1
    have h8 : h < 8 := by have := hC.n8; omega
    rw [fX3_isLike_b98]
    cases d with
    | zero =>
      obtain rfl : i = 4 := by omega
      rw [if_pos (show (4 : Int32) ≤ Int32.ofNat 4 from Int32.le_refl _), zi_inc, if_pos ha]
    | succ d =>
      have hi2 : 4 * h + i < 32 := by omega
      rw [if_neg (show ¬ (4 : Int32) ≤ Int32.ofNat i from zi_nle (a := 4) (by omega) (by omega))]
      simp only [↓zl_rI, ↓zl_r3, ↓zl_r4, ↓zl_r5, ↓zl_r6, ↓zl_r7, ↓zl_r8, ↓zl_r9, ↓zl_r10, ↓zl_r11, ↓zl_r12, ↓zl_chk, ↓zl_a1, ↓zl_a2, ↓zl_a3, ↓zl_a4, ↓zl_a5, ↓zl_a6, ↓zl_a7, ↓zl_a8, ↓zl_a9, ↓zl_a10, zLS_I, hL, hL', hi2, zi_4, (hC.hd hh).2.2.1 i (by omega), (hC'.hd hh).2.2.1 i (by omega), zi_inc, true_or, ↓reduceIte]
      by_cases c : hvr (sh S h) i = hvr (sh S' h) i
      · rw [if_pos c]
        exact zc_like_b98 hC hC' hh K d f (i + 1) (by omega) (by omega) (by omega) (by rw [zall_succ, ha]; simp [c])
      · rw [if_neg c, zall_not (k := i) (by omega) (by simp [c]), if_neg (by decide)]
theorem zadr_eq (hP : zCP P A G) {s t : Nat} (hs : s < zN P ∨ s = 40) (ht : t < zN P ∨ t = 40) : (zadr P A s = zadr P A t) = (s = t) := by
  refine propext ⟨fun q => ?_, fun q => q ▸ rfl⟩
  have hN := hP.1.1
  unfold zadr at q
  rcases hs with hs | hs <;> rcases ht with ht | ht
  · rw [if_pos hs, if_pos ht] at q
    exact hP.2.1 s t hs ht (Option.some.inj q)
  · rw [if_pos hs, if_neg (by omega)] at q
    cases q
  · rw [if_neg (by omega), if_pos ht] at q
    cases q
  · omega
theorem zb_eq (a b : Bool) : (zb a = zb b) = (a = b) := by cases a <;> cases b <;> decide
theorem zc_like_b26 {l' : Nat} {S' : zS} {T' : Nat → Int32} (hC : zCL P A G l n S T) (hC' : zCL P A G l' n S' T') (hP : zCP P A G) (hw : zwf P n S) (hw' : zwf P n S') (hm : sm S = sm S') : ∀ d f i, n - i = d → i ≤ n → d < f → zall (fun h => zlikeH (sh S h) (sh S' h)) i = true →
    fX3_isLike_b26 E f l (some l') (Int32.ofNat i) G = some (zb (zlike n S S'), G)
  | d, f, i, hd, hi, hf, ha => by
    obtain ⟨f, rfl⟩ := z_suc hf
    have hL := hC.1
    have hL' := hC'.1
    have hn := hC.n8
    rw [fX3_isLike_b26]
    simp only [↓zl_rI, ↓zl_r3, ↓zl_r4, ↓zl_r5, ↓zl_r6, ↓zl_r7, ↓zl_r8, ↓zl_r9, ↓zl_r10, ↓zl_r11, ↓zl_r12, ↓zl_chk, ↓zl_a1, ↓zl_a2, ↓zl_a3, ↓zl_a4, ↓zl_a5, ↓zl_a6, ↓zl_a7, ↓zl_a8, ↓zl_a9, ↓zl_a10, zLS_I, hL, hC.I0]
    unfold zlike
    cases d with
    | zero =>
      obtain rfl : i = n := by omega
      rw [if_pos (zi_le (by omega) (by omega)), ha, hm]
      have e := zc_like_b142 (E := E) hC hC' hm (sm S) gFU 0 (by omega) (by omega) (z_F _ (by have := hC.m3; omega)) rfl
      rw [hm] at e
      simpa using e
    | succ d =>
      have h8 : i < 8 := by omega
      have q := hC.hd (show i < n by omega)
      have q' := hC'.hd (show i < n by omega)
      have e := zc_like_b98 (E := E) hC hC' (show i < n by omega) (fX3_isLike_b26 E f) 4 gFU 0 (by omega) (by omega) (z_F _ (by omega)) rfl
      have ih := zc_like_b26 hC hC' hP hw hw' hm d f (i + 1) (by omega) (by omega) (by omega)
      rw [if_neg (zi_nle (by omega) (by omega))]
      simp only [↓zl_rI, ↓zl_r3, ↓zl_r4, ↓zl_r5, ↓zl_r6, ↓zl_r7, ↓zl_r8, ↓zl_r9, ↓zl_r10, ↓zl_r11, ↓zl_r12, ↓zl_chk, ↓zl_a1, ↓zl_a2, ↓zl_a3, ↓zl_a4, ↓zl_a5, ↓zl_a6, ↓zl_a7, ↓zl_a8, ↓zl_a9, ↓zl_a10, zLS_I, hL, hL', h8, q.1, q.2.1, q.2.2.2.1, q.2.2.2.2, q'.1, q'.2.1, q'.2.2.2.1, q'.2.2.2.2, zi_00, ↓reduceIte, zadr_eq hP (hw i (by omega)) (hw' i (by omega)), zb_eq]
      have e2 : fX3_isLike_b98 E (fX3_isLike_b26 E f) gFU l (some l') (Int32.ofNat i) 0 G = _ := e
      rw [e2]
      by_cases c : zlikeH (sh S i) (sh S' i) = true
      · have c2 := zlikeH_iff.1 c
        rw [if_neg (fun q => q c2.1), if_neg (fun q => q c2.2.1), if_neg (fun q => q c2.2.2.1), if_pos c2.2.2.2.1, if_pos (by rw [zall_iff]; intro k hk; simp [c2.2.2.2.2 k hk])]
        exact ih (by rw [zall_succ, ha, c]; rfl)
      · rw [zall_not (f := fun h => zlikeH (sh S h) (sh S' h)) (k := i) (by omega) (by simpa using c)]
        simp only [Bool.and_false, Bool.false_and]
        rw [zlikeH_iff] at c
        by_cases q1 : hat (sh S i) = hat (sh S' i)
        · rw [if_neg (fun q => q q1)]
          by_cases q2 : hst (sh S i) = hst (sh S' i)
          · rw [if_neg (fun q => q q2)]
            by_cases q3 : hfr (sh S i) = hfr (sh S' i)
            · rw [if_neg (fun q => q q3)]
              by_cases q4 : htd (sh S i) = htd (sh S' i)
              · rw [if_pos q4, if_neg]
                · rfl
                · rw [zall_iff]
                  intro q5
                  exact c ⟨q1, q2, q3, q4, fun k hk => by simpa using q5 k hk⟩
              · rw [if_neg q4]; rfl
            · rw [if_pos q3]; rfl
          · rw [if_pos q2]; rfl
        · rw [if_pos q1]; rfl
theorem zc_like {l' : Nat} {S' : zS} {T' : Nat → Int32} (hC : zCL P A G l n S T) (hC' : zCL P A G l' n S' T') (hP : zCP P A G) (hw : zwf P n S) (hw' : zwf P n S') (hh : gI G l 2 = zhash P n S) (hh' : gI G l' 2 = zhash P n S') : fX3_isLike E l (some l') G = some (zb (zlike n S S'), G) := by
  have hL := hC.1
  have hL' := hC'.1
  have m1 := hC.m3
  have m2 := hC'.m3
  rw [fX3_isLike]
  simp only [↓zl_rI, ↓zl_r3, ↓zl_r4, ↓zl_r5, ↓zl_r6, ↓zl_r7, ↓zl_r8, ↓zl_r9, ↓zl_r10, ↓zl_r11, ↓zl_r12, ↓zl_chk, ↓zl_a1, ↓zl_a2, ↓zl_a3, ↓zl_a4, ↓zl_a5, ↓zl_a6, ↓zl_a7, ↓zl_a8, ↓zl_a9, ↓zl_a10, zLS_I, hL, hL', hh, hh', hC.I1, hC'.I1, zi_00, ↓reduceIte, zi_eq (show sm S < 2147483648 by omega) (show sm S' < 2147483648 by omega)]
  by_cases c : zhash P n S = zhash P n S'
  · rw [if_neg (fun q => q c)]
    by_cases c2 : sm S = sm S'
    · rw [if_pos c2]
      exact zc_like_b26 hC hC' hP hw hw' c2 n gFU 0 (by omega) (by omega) (z_F _ (by have := hC.n8; omega)) rfl
    · rw [if_neg c2]
      unfold zlike
      simp [c2, zb]
  · rw [if_pos c]
    cases q : zlike n S S'
    · rfl
    · exact absurd (zlike_hash q) c
end Z5
