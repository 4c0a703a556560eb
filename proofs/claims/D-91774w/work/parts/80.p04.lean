/-! THE PLAIN LAW, 4: what a Life of the class answers -/
set_option maxRecDepth 100000
section Z4
variable {P : zPr} {A : Nat → Nat} {E : g_E} {G : g_G} {l n : Nat} {S : zS} {T : Nat → Int32}
theorem zCL.hd (h : zCL P A G l n S T) {j : Nat} (hj : j < n) : zHr P A G l j (sh S j) := h.2.2.2.2.2.1 j hj
theorem zCL.wd (h : zCL P A G l n S T) {j : Nat} (hj : j < sm S) : zWr G l j (sw S j) := h.2.2.2.2.2.2.1 j hj
theorem zCL.th (h : zCL P A G l n S T) {j : Nat} (hj : j < sm S) : gI G (l + 10) j = T j := h.2.2.2.2.2.2.2 j hj
theorem zCL.n8 (h : zCL P A G l n S T) : n ≤ 8 := h.2.1
theorem zCL.m3 (h : zCL P A G l n S T) : sm S ≤ 320 := h.2.2.1
theorem zCL.I0 (h : zCL P A G l n S T) : gI G l 0 = Int32.ofNat n := h.2.2.2.1
theorem zCL.I1 (h : zCL P A G l n S T) : gI G l 1 = Int32.ofNat (sm S) := h.2.2.2.2.1
theorem zadr_n {s : Nat} : (zadr P A s = none) = (¬ s < zN P) := by
  unfold zadr
  by_cases c : s < zN P <;> simp [c]
theorem zc_ended (hC : zCL P A G l n S T) {h : Nat} (hh : h < n) : fX3_hasEnded E l (Int32.ofNat h) G = some (zb (!decide (hat (sh S h) < zN P)), G) := by
  have hL := hC.1
  have h8 : h < 8 := by have := hC.n8; omega
  simp only [fX3_hasEnded, ↓zl_rI, ↓zl_r3, ↓zl_r4, ↓zl_r5, ↓zl_r6, ↓zl_r7, ↓zl_r8, ↓zl_r9, ↓zl_r10, ↓zl_r11, ↓zl_r12, ↓zl_chk, ↓zl_a1, ↓zl_a2, ↓zl_a3, ↓zl_a4, ↓zl_a5, ↓zl_a6, ↓zl_a7, ↓zl_a8, ↓zl_a9, ↓zl_a10, zLS_I, hL, h8, (hC.hd hh).1, zadr_n, zi_00, zi_11, ↓reduceIte]
  by_cases c : hat (sh S h) < zN P <;> simp [c, zb]
theorem zfirst_succ (w : Nat → zW) (p : Nat) (mk : Int32) (d i : Nat) : zfirst w p mk (d + 1) i = if wpr (w i) = p ∧ wmk (w i) = mk then some i else zfirst w p mk d (i + 1) := rfl
theorem zc_first_b3 (hC : zCL P A G l n S T) {s t : Nat} (hp : 8 * s + t < 64) (mk : Int32) : ∀ d f i, sm S - i = d → i ≤ sm S → d < f → fX3_first_b3 E f l (Int32.ofNat s) (Int32.ofNat t) mk (Int32.ofNat i) G = some (znum (zfirst (sw S) (8 * s + t) mk d i), G)
  | d, f, i, hd, hi, hf => by
    obtain ⟨f, rfl⟩ := z_suc hf
    have hL := hC.1
    have hm := hC.m3
    rw [fX3_first_b3]
    simp only [↓zl_rI, ↓zl_r3, ↓zl_r4, ↓zl_r5, ↓zl_r6, ↓zl_r7, ↓zl_r8, ↓zl_r9, ↓zl_r10, ↓zl_r11, ↓zl_r12, ↓zl_chk, ↓zl_a1, ↓zl_a2, ↓zl_a3, ↓zl_a4, ↓zl_a5, ↓zl_a6, ↓zl_a7, ↓zl_a8, ↓zl_a9, ↓zl_a10, zLS_I, hL, hC.I1]
    cases d with
    | zero =>
      rw [if_pos (zi_le (by omega) (by omega))]
      rfl
    | succ d =>
      have hi2 : i < 320 := by omega
      have hw := hC.wd (j := i) (by omega)
      have hw1 := hw.1
      rw [if_neg (zi_nle (by omega) (by omega))]
      simp only [↓zl_rI, ↓zl_r3, ↓zl_r4, ↓zl_r5, ↓zl_r6, ↓zl_r7, ↓zl_r8, ↓zl_r9, ↓zl_r10, ↓zl_r11, ↓zl_r12, ↓zl_chk, ↓zl_a1, ↓zl_a2, ↓zl_a3, ↓zl_a4, ↓zl_a5, ↓zl_a6, ↓zl_a7, ↓zl_a8, ↓zl_a9, ↓zl_a10, zLS_I, hL, hi2, zi_8, hw.2.2.1, hw.2.2.2.1, fX3_first_b42, zi_inc, zi_eq (show wpr (sw S i) < 2147483648 by omega) (show 8 * s + t < 2147483648 by omega)]
      rw [zc_first_b3 hC hp mk d f (i + 1) (by omega) (by omega) (by omega)]
      rw [zfirst_succ]
      by_cases c : wpr (sw S i) = 8 * s + t
      · by_cases c2 : wmk (sw S i) = mk <;> simp [c, c2, znum]
      · simp [c]
theorem zc_first (hC : zCL P A G l n S T) {s t : Nat} (hp : 8 * s + t < 64) (mk : Int32) : fX3_first E l (Int32.ofNat s) (Int32.ofNat t) mk G = some (znum (zfnd S s t mk), G) :=
  zc_first_b3 hC hp mk (sm S) gFU 0 (by omega) (by omega) (z_F _ (by have := hC.m3; omega))
theorem zsent_le (w : Nat → zW) (p : Nat) : ∀ m, zsent w p m ≤ m
  | 0 => Nat.le_refl 0
  | m + 1 => by
    have := zsent_le w p m
    unfold zsent
    by_cases c : wpr (w m) = p ∧ wbg (w m) = false
    · rw [if_pos c]; omega
    · rw [if_neg c]; omega
theorem wsl_pos {w : zW} (h : 1 ≤ wln w ∧ wln w ≤ 99) : (wsl w ≤ 0) = (wbg w = true) := by
  unfold wsl
  cases wbg w with
  | true =>
    simp only [↓reduceIte, eq_iff_iff, iff_true]
    rw [Int32.neg_nonpos_iff]
    exact Or.inr (Int32.zero_le_ofNat_of_lt (by omega))
  | false =>
    simp only [Bool.false_eq_true, ↓reduceIte, eq_iff_iff, iff_false]
    exact zi_nle (b := 0) (by omega) (by omega)
theorem wsl_neg {w : zW} (h : 1 ≤ wln w ∧ wln w ≤ 99) : (0 ≤ wsl w) = (wbg w = false) := by
  unfold wsl
  cases wbg w with
  | true =>
    simp only [↓reduceIte, eq_iff_iff, Bool.true_eq_false, iff_false]
    intro q
    have h1 : -Int32.ofNat (wln w) ≤ 0 := by
      rw [Int32.neg_nonpos_iff]
      exact Or.inr (Int32.zero_le_ofNat_of_lt (by omega))
    have h2 : -Int32.ofNat (wln w) = 0 := Int32.le_antisymm h1 q
    have h3 : Int32.ofNat (wln w) = Int32.ofNat 0 := by
      have := congrArg (fun x => -x) h2
      simp only [Int32.neg_neg] at this
      exact this
    have := zi_inj (by omega) (by omega) h3
    omega
  | false =>
    simp only [Bool.false_eq_true, ↓reduceIte, eq_iff_iff, iff_true]
    exact Int32.zero_le_ofNat_of_lt (by omega)
theorem zsent_succ (w : Nat → zW) (p i : Nat) : zsent w p (i + 1) = if wpr (w i) = p ∧ wbg (w i) = false then zsent w p i + 1 else zsent w p i := rfl
theorem zc_sent_b5 (hC : zCL P A G l n S T) {s t : Nat} (hp : 8 * s + t < 64) : ∀ d f i, sm S - i = d → i ≤ sm S → d < f → fX3_sent_b5 E f l (Int32.ofNat s) (Int32.ofNat t) (Int32.ofNat (zsent (sw S) (8 * s + t) i)) (Int32.ofNat i) G = some (Int32.ofNat (zsent (sw S) (8 * s + t) (sm S)), G)
  | d, f, i, hd, hi, hf => by
    obtain ⟨f, rfl⟩ := z_suc hf
    have hL := hC.1
    have hm := hC.m3
    rw [fX3_sent_b5]
    simp only [↓zl_rI, ↓zl_r3, ↓zl_r4, ↓zl_r5, ↓zl_r6, ↓zl_r7, ↓zl_r8, ↓zl_r9, ↓zl_r10, ↓zl_r11, ↓zl_r12, ↓zl_chk, ↓zl_a1, ↓zl_a2, ↓zl_a3, ↓zl_a4, ↓zl_a5, ↓zl_a6, ↓zl_a7, ↓zl_a8, ↓zl_a9, ↓zl_a10, zLS_I, hL, hC.I1]
    cases d with
    | zero =>
      obtain rfl : i = sm S := by omega
      rw [if_pos (zi_le (by omega) (by omega))]
    | succ d =>
      have hi2 : i < 320 := by omega
      have hw := hC.wd (j := i) (by omega)
      have ih := zc_sent_b5 hC hp d f (i + 1) (by omega) (by omega) (by omega)
      have hw1 := hw.1
      rw [zsent_succ] at ih
      rw [if_neg (zi_nle (by omega) (by omega))]
      simp only [↓zl_rI, ↓zl_r3, ↓zl_r4, ↓zl_r5, ↓zl_r6, ↓zl_r7, ↓zl_r8, ↓zl_r9, ↓zl_r10, ↓zl_r11, ↓zl_r12, ↓zl_chk, ↓zl_a1, ↓zl_a2, ↓zl_a3, ↓zl_a4, ↓zl_a5, ↓zl_a6, ↓zl_a7, ↓zl_a8, ↓zl_a9, ↓zl_a10, zLS_I, hL, hi2, zi_8, hw.2.2.1, hw.2.2.2.2.2, fX3_sent_b43, zi_inc, zi_eq (show wpr (sw S i) < 2147483648 by omega) (show 8 * s + t < 2147483648 by omega), wsl_pos hw.2.1]
      by_cases c : wpr (sw S i) = 8 * s + t
      · cases c2 : wbg (sw S i)
        · rw [c2, if_pos ⟨c, rfl⟩] at ih
          rw [if_neg (fun q => q c), if_neg (by simp)]
          exact ih
        · rw [c2, if_neg (by simp)] at ih
          rw [if_neg (fun q => q c), if_pos rfl]
          exact ih
      · rw [if_neg (fun q => c q.1)] at ih
        rw [if_pos c]
        exact ih
theorem zc_sent (hC : zCL P A G l n S T) {s t : Nat} (hp : 8 * s + t < 64) : fX3_sent E l (Int32.ofNat s) (Int32.ofNat t) G = some (Int32.ofNat (zsent (sw S) (8 * s + t) (sm S)), G) :=
  zc_sent_b5 hC hp (sm S) gFU 0 (by omega) (by omega) (z_F _ (by have := hC.m3; omega))
theorem zi_div8 {p : Nat} (hp : p < 64) : Int32.ofNat p / 8 = Int32.ofNat (p / 8) := by
  rw [Int32.ofNat_div (by omega) (by omega)]
  rfl
theorem zi_mod8 {p : Nat} (hp : p < 64) : Int32.ofNat p - Int32.ofNat p / 8 * 8 = Int32.ofNat (p % 8) := by
  rw [zi_div8 hp, show (8 : Int32) = Int32.ofNat 8 from rfl, ← Int32.ofNat_mul, ← Int32.ofNat_sub _ _ (by omega)]
  congr 1
  omega
theorem zi_mod8b {p : Nat} (hp : p < 64) : Int32.ofNat p - Int32.ofNat (p / 8) * 8 = Int32.ofNat (p % 8) := by
  rw [← zi_div8 hp, zi_mod8 hp]
theorem zbgn_succ (w : Nat → zW) (s m : Nat) : zbgn w s (m + 1) = if wpr (w m) / 8 = s ∧ wbg (w m) = true then zbgn w s m ||| zbit (wpr (w m) % 8) else zbgn w s m := rfl
theorem zi_80 : ((8 : Int32) = 0) = False := by decide
theorem zc_begun_b4 (hC : zCL P A G l n S T) {s : Nat} (hp : s < 8) : ∀ d f i, sm S - i = d → i ≤ sm S → d < f → fX3_begun_b4 E f l (Int32.ofNat s) (zbgn (sw S) s i) (Int32.ofNat i) G = some (zbgn (sw S) s (sm S), G)
  | d, f, i, hd, hi, hf => by
    obtain ⟨f, rfl⟩ := z_suc hf
    have hL := hC.1
    have hm := hC.m3
    rw [fX3_begun_b4]
    simp only [↓zl_rI, ↓zl_r3, ↓zl_r4, ↓zl_r5, ↓zl_r6, ↓zl_r7, ↓zl_r8, ↓zl_r9, ↓zl_r10, ↓zl_r11, ↓zl_r12, ↓zl_chk, ↓zl_a1, ↓zl_a2, ↓zl_a3, ↓zl_a4, ↓zl_a5, ↓zl_a6, ↓zl_a7, ↓zl_a8, ↓zl_a9, ↓zl_a10, zLS_I, hL, hC.I1]
    cases d with
    | zero =>
      obtain rfl : i = sm S := by omega
      rw [if_pos (zi_le (by omega) (by omega))]
    | succ d =>
      have hi2 : i < 320 := by omega
      have hw := hC.wd (j := i) (by omega)
      have ih := zc_begun_b4 hC hp d f (i + 1) (by omega) (by omega) (by omega)
      have hw1 := hw.1
      rw [zbgn_succ] at ih
      rw [if_neg (zi_nle (by omega) (by omega))]
      simp only [↓zl_rI, ↓zl_r3, ↓zl_r4, ↓zl_r5, ↓zl_r6, ↓zl_r7, ↓zl_r8, ↓zl_r9, ↓zl_r10, ↓zl_r11, ↓zl_r12, ↓zl_chk, ↓zl_a1, ↓zl_a2, ↓zl_a3, ↓zl_a4, ↓zl_a5, ↓zl_a6, ↓zl_a7, ↓zl_a8, ↓zl_a9, ↓zl_a10, zLS_I, hL, hi2, hw.2.2.1, hw.2.2.2.2.2, zi_80, ↓reduceIte, fX3_begun_b48, zi_inc, zi_mod8b hw1, zi_div8 hw1, zi_eq (show wpr (sw S i) / 8 < 2147483648 by omega) (show s < 2147483648 by omega), wsl_neg hw.2.1]
      by_cases c : wpr (sw S i) / 8 = s
      · cases c2 : wbg (sw S i)
        · rw [c2, if_neg (by simp)] at ih
          rw [if_neg (fun q => q c), if_pos rfl]
          exact ih
        · rw [c2, if_pos ⟨c, rfl⟩] at ih
          rw [if_neg (fun q => q c), if_neg (by simp)]
          exact ih
      · rw [if_neg (fun q => c q.1)] at ih
        rw [if_pos c]
        exact ih
theorem zc_begun (hC : zCL P A G l n S T) {s : Nat} (hp : s < 8) : fX3_begun E l (Int32.ofNat s) G = some (zbgn (sw S) s (sm S), G) :=
  zc_begun_b4 hC hp (sm S) gFU 0 (by omega) (by omega) (z_F _ (by have := hC.m3; omega))
theorem zbits_succ (f : Nat → Bool) (n : Nat) : zbits f (n + 1) = if f n = true then zbits f n ||| zbit n else zbits f n := rfl
theorem zc_bits_b4 (hC : zCL P A G l n S T) : ∀ d f i, n - i = d → i ≤ n → d < f → fX3_bits_b4 E f l (zbits (fun h => decide (hat (sh S h) < zN P)) i) (Int32.ofNat i) G = some (zlive P n S, G)
  | d, f, i, hd, hi, hf => by
    obtain ⟨f, rfl⟩ := z_suc hf
    have hL := hC.1
    have hn := hC.n8
    rw [fX3_bits_b4]
    simp only [↓zl_rI, ↓zl_r3, ↓zl_r4, ↓zl_r5, ↓zl_r6, ↓zl_r7, ↓zl_r8, ↓zl_r9, ↓zl_r10, ↓zl_r11, ↓zl_r12, ↓zl_chk, ↓zl_a1, ↓zl_a2, ↓zl_a3, ↓zl_a4, ↓zl_a5, ↓zl_a6, ↓zl_a7, ↓zl_a8, ↓zl_a9, ↓zl_a10, zLS_I, hL, hC.I0]
    cases d with
    | zero =>
      obtain rfl : i = n := by omega
      rw [if_pos (zi_le (by omega) (by omega))]
      rfl
    | succ d =>
      have ih := zc_bits_b4 hC d f (i + 1) (by omega) (by omega) (by omega)
      rw [zbits_succ] at ih
      rw [if_neg (zi_nle (by omega) (by omega))]
      simp only [zc_ended hC (show i < n by omega), Option.bind_some, fX3_bits_b26, zi_inc, zb_n0, Bool.not_eq_true', decide_eq_false_iff_not]
      by_cases c : hat (sh S i) < zN P
      · rw [if_pos (by simpa using c)] at ih
        rw [if_neg (fun q => q c)]
        exact ih
      · rw [if_neg (by simpa using c)] at ih
        rw [if_pos c]
        exact ih
theorem zc_bits (hC : zCL P A G l n S T) : fX3_bits E l G = some (zlive P n S, G) :=
  zc_bits_b4 hC n gFU 0 (by omega) (by omega) (z_F _ (by have := hC.n8; omega))
theorem zall_succ (f : Nat → Bool) (n : Nat) : zall f (n + 1) = (zall f n && f n) := rfl
theorem zall_iff (f : Nat → Bool) : ∀ n, (zall f n = true) = ∀ k, k < n → f k = true
  | 0 => by simp [zall]
  | n + 1 => by
    rw [zall_succ, Bool.and_eq_true, zall_iff f n]
    refine propext ⟨fun q k hk => ?_, fun q => ⟨fun k hk => q k (by omega), q n (by omega)⟩⟩
    by_cases c : k = n
    · exact c ▸ q.2
    · exact q.1 k (by omega)
theorem zall_not {f : Nat → Bool} {n k : Nat} (hk : k < n) (h : f k = false) : zall f n = false := by
  rw [← Bool.not_eq_true, zall_iff]
  intro q
  rw [q k hk] at h
  exact absurd h (by decide)
theorem zc_kind_b11 (hC : zCL P A G l n S T) : ∀ d f i, n - i = d → i ≤ n → d < f → zall (fun h => !hst (sh S h)) i = true → fX3_kind_b11 E f l (Int32.ofNat i) G = some (if zall (fun h => !hst (sh S h)) n = true then 2 else 1, G)
  | d, f, i, hd, hi, hf, ha => by
    obtain ⟨f, rfl⟩ := z_suc hf
    have hL := hC.1
    have hn := hC.n8
    rw [fX3_kind_b11]
    simp only [↓zl_rI, ↓zl_r3, ↓zl_r4, ↓zl_r5, ↓zl_r6, ↓zl_r7, ↓zl_r8, ↓zl_r9, ↓zl_r10, ↓zl_r11, ↓zl_r12, ↓zl_chk, ↓zl_a1, ↓zl_a2, ↓zl_a3, ↓zl_a4, ↓zl_a5, ↓zl_a6, ↓zl_a7, ↓zl_a8, ↓zl_a9, ↓zl_a10, zLS_I, hL, hC.I0]
    cases d with
    | zero =>
      obtain rfl : i = n := by omega
      rw [if_pos (zi_le (by omega) (by omega)), if_pos ha]
    | succ d =>
      have h8 : i < 8 := by omega
      rw [if_neg (zi_nle (by omega) (by omega))]
      simp only [↓zl_rI, ↓zl_r3, ↓zl_r4, ↓zl_r5, ↓zl_r6, ↓zl_r7, ↓zl_r8, ↓zl_r9, ↓zl_r10, ↓zl_r11, ↓zl_r12, ↓zl_chk, ↓zl_a1, ↓zl_a2, ↓zl_a3, ↓zl_a4, ↓zl_a5, ↓zl_a6, ↓zl_a7, ↓zl_a8, ↓zl_a9, ↓zl_a10, zLS_I, hL, h8, (hC.hd (show i < n by omega)).2.1, zi_inc, zb_0]
      cases c : hst (sh S i)
      · rw [if_pos rfl]
        exact zc_kind_b11 hC d f (i + 1) (by omega) (by omega) (by omega) (by rw [zall_succ, ha]; simp [c])
      · rw [if_neg (by simp), zall_not (k := i) (by omega) (by simp [c]), if_neg (by simp)]
theorem zc_kind (hC : zCL P A G l n S T) : fX3_kind E l G = some (zkind P n S, G) := by
  have hL := hC.1
  have hn := hC.n8
  have e := zc_kind_b11 (E := E) hC n gFU 0 (by omega) (by omega) (z_F _ (by omega)) rfl
  simp only [fX3_kind, ↓zl_rI, ↓zl_r3, ↓zl_r4, ↓zl_r5, ↓zl_r6, ↓zl_r7, ↓zl_r8, ↓zl_r9, ↓zl_r10, ↓zl_r11, ↓zl_r12, ↓zl_chk, ↓zl_a1, ↓zl_a2, ↓zl_a3, ↓zl_a4, ↓zl_a5, ↓zl_a6, ↓zl_a7, ↓zl_a8, ↓zl_a9, ↓zl_a10, zLS_I, hL, zc_bits hC, Option.bind_some]
  unfold zkind
  by_cases c : zlive P n S = 0
  · rw [if_neg (fun q => q c), if_pos c]
  · rw [if_pos c, if_neg c]
    exact e
/-- what the text's steps are, as cells say it -/
def zCP (P : zPr) (A : Nat → Nat) (G : g_G) : Prop := zOk P ∧ (∀ s t, s < zN P → t < zN P → A s = A t → s = t) ∧ ∀ s, s < zN P → (11 ≤ gcl G (A s) ∧ gcl G (A s) ≤ 16) ∧ gI G (A s) 0 = Int32.ofNat (zkd P s) ∧ gI G (A s) 1 = Int32.ofNat s ∧ gR G (A s) 2 = zadr P A (znx P s)
theorem zi_ne {a b : Nat} (ha : a < 2147483648) (hb : b < 2147483648) (h : a ≠ b) : ¬ Int32.ofNat a = Int32.ofNat b := fun q => h (zi_inj ha hb q)
theorem zadr_s {s : Nat} (h : s < zN P) : zadr P A s = some (A s) := if_pos h
theorem zc_isAt (hC : zCL P A G l n S T) (hP : zCP P A G) {h k : Nat} (hh : h < n) (hk : k < 100) : fX3_isAt E l (Int32.ofNat h) (Int32.ofNat k) G = some (zb (zisAt P (sh S h) k), G) := by
  have hL := hC.1
  have h8 : h < 8 := by have := hC.n8; omega
  have hd := hC.hd hh
  rw [fX3_isAt]
  simp only [↓zl_rI, ↓zl_r3, ↓zl_r4, ↓zl_r5, ↓zl_r6, ↓zl_r7, ↓zl_r8, ↓zl_r9, ↓zl_r10, ↓zl_r11, ↓zl_r12, ↓zl_chk, ↓zl_a1, ↓zl_a2, ↓zl_a3, ↓zl_a4, ↓zl_a5, ↓zl_a6, ↓zl_a7, ↓zl_a8, ↓zl_a9, ↓zl_a10, zLS_I, hL, h8, hd.1, hd.2.1, zb_n0]
  unfold zisAt
  by_cases c : hat (sh S h) < zN P
  · have q := hP.2.2 _ c
    have hkd := (hP.1.2 _ c).1
    simp only [zadr_s c, reduceCtorEq, ↓reduceIte, zp_rI q.1, q.2.1, zi_eq (show zkd P (hat (sh S h)) < 2147483648 by omega) (show k < 2147483648 by omega), zi_00, zi_11]
    cases c2 : hst (sh S h) <;> by_cases c3 : zkd P (hat (sh S h)) = k <;> simp [c, c3, zb]
  · have e : zadr P A (hat (sh S h)) = none := if_neg c
    simp [e, c, zb]
theorem zc_allAt_b2 (hC : zCL P A G l n S T) (hP : zCP P A G) {k : Nat} (hk : k < 100) : ∀ d f i, n - i = d → i ≤ n → d < f → zall (fun h => zisAt P (sh S h) k) i = true → fX1_areAllAt_b2 E f (some l) (Int32.ofNat k) (Int32.ofNat i) G = some (zb (zallAt P n S k), G)
  | d, f, i, hd, hi, hf, ha => by
    obtain ⟨f, rfl⟩ := z_suc hf
    have hL := hC.1
    have hn := hC.n8
    rw [fX1_areAllAt_b2]
    simp only [↓zl_rI, ↓zl_r3, ↓zl_r4, ↓zl_r5, ↓zl_r6, ↓zl_r7, ↓zl_r8, ↓zl_r9, ↓zl_r10, ↓zl_r11, ↓zl_r12, ↓zl_chk, ↓zl_a1, ↓zl_a2, ↓zl_a3, ↓zl_a4, ↓zl_a5, ↓zl_a6, ↓zl_a7, ↓zl_a8, ↓zl_a9, ↓zl_a10, zLS_I, hL, hC.I0]
    unfold zallAt
    cases d with
    | zero =>
      obtain rfl : i = n := by omega
      rw [if_pos (zi_le (by omega) (by omega)), ha]
      rfl
    | succ d =>
      rw [if_neg (zi_nle (by omega) (by omega))]
      simp only [zc_isAt hC hP (show i < n by omega) hk, Option.bind_some, zi_inc, zb_n0]
      cases c : zisAt P (sh S i) k
      · rw [if_neg (by decide), zall_not (k := i) (by omega) c]
        rfl
      · rw [if_pos rfl]
        exact zc_allAt_b2 hC hP hk d f (i + 1) (by omega) (by omega) (by omega) (by rw [zall_succ, ha, c]; rfl)
theorem zc_allAt (hC : zCL P A G l n S T) (hP : zCP P A G) {k x : Nat} (hk : k < 100) : fX1_areAllAt E x (some l) (Int32.ofNat k) G = some (zb (zallAt P n S k), G) :=
  zc_allAt_b2 hC hP hk n gFU 0 (by omega) (by omega) (z_F _ (by have := hC.n8; omega)) rfl
end Z4
