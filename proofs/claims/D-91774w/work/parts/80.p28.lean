/-! THE PLAIN LAW, 28: the ring of a play -/
set_option maxRecDepth 100000
def zcnt (f : Nat → Bool) : Nat → Nat
  | 0 => 0
  | k + 1 => if f k = true then zcnt f k + 1 else zcnt f k
def znxt (W : Nat → Nat → Bool) (n h : Nat) : Option Nat := if zany (W h) n = true then some (zlow (W h) n 0) else none
/-- from hand to hand, until none comes or one comes again -/
def zrw (W : Nat → Nat → Bool) (n : Nat) : Nat → Option Nat → (Nat → Bool) → Nat → (Nat → Nat) → Option Nat × Nat × (Nat → Nat)
  | 0, _, _, c, row => (none, c, row)
  | F + 1, at', seen, c, row => match at' with
    | none => (none, c, row)
    | some a => if seen a = true then (some a, c, row) else zrw W n F (znxt W n a) (va_up seen a true) (c + 1) (va_up row c a)
def zfrm (row : Nat → Nat) (a : Nat) : Nat → Nat → Nat
  | 0, i => i
  | d + 1, i => if row i = a then i else zfrm row a d (i + 1)
def zrg (q : Option Nat × Nat × (Nat → Nat)) : Nat × (Nat → Nat) := match q.1 with
  | none => (0, fun _ => 0)
  | some a => (q.2.1 - zfrm q.2.2 a q.2.1 0, fun i => q.2.2 (zfrm q.2.2 a q.2.1 0 + i))
def zst0 (P : zPr) (n : Nat) (S : zS) : Option Nat := if zany (fun h => decide (hat (sh S h) < zN P)) n = true then some (zlow (fun h => decide (hat (sh S h) < zN P)) n 0) else none
def zring (P : zPr) (n : Nat) (S : zS) : Nat × (Nat → Nat) := zrg (zrw (zwp P n S) n 9 (zst0 P n S) (fun _ => false) 0 (fun _ => 0))
section Z28
variable {P : zPr} {A : Nat → Nat} {E : g_E} {G : g_G} {l n : Nat} {S : zS} {T : Nat → Int32} {R : Nat → Prop} {x tx r : Nat} {o : Nat → Bool}
theorem zcnt_succ (f : Nat → Bool) (k : Nat) : zcnt f (k + 1) = if f k = true then zcnt f k + 1 else zcnt f k := rfl
theorem zcnt_le (f : Nat → Bool) : ∀ k, zcnt f k ≤ k
  | 0 => Nat.le_refl 0
  | k + 1 => by
    have := zcnt_le f k
    rw [zcnt_succ]
    split <;> omega
theorem zcnt_set (f : Nat → Bool) (a : Nat) (ha : f a = false) : ∀ k, zcnt (va_up f a true) k = if a < k then zcnt f k + 1 else zcnt f k
  | 0 => by rw [if_neg (by omega)]; rfl
  | k + 1 => by
    rw [zcnt_succ, zcnt_succ, zcnt_set f a ha k]
    show (if (if k = a then true else f k) = true then _ else _) = _
    by_cases c : k = a
    · subst c
      rw [if_pos rfl, if_pos rfl, if_neg (by omega), ha, if_pos (by omega)]
      simp
    · rw [if_neg c]
      by_cases c2 : a < k
      · rw [if_pos c2, if_pos (show a < k + 1 by omega)]
        cases q : f k <;> simp
      · rw [if_neg c2, if_neg (show ¬ a < k + 1 by omega)]
theorem zrw_succ (W : Nat → Nat → Bool) (F : Nat) (at' : Option Nat) (seen : Nat → Bool) (c : Nat) (row : Nat → Nat) : zrw W n (F + 1) at' seen c row = match at' with
    | none => (none, c, row)
    | some a => if seen a = true then (some a, c, row) else zrw W n F (znxt W n a) (va_up seen a true) (c + 1) (va_up row c a) := rfl
theorem zpa_na {S : zS} {j : Nat} (h : zst0 P n S = some j) : j < n := by
  unfold zst0 at h
  split at h
  · rename_i q
    obtain ⟨i, h1, h2⟩ := zany_iff.1 q
    cases h
    have := (zlow_ok (f := fun h => decide (hat (sh S h) < zN P)) (d := n) (i := 0) (Nat.zero_le i) (by omega) h2).1
    omega
  · cases h
theorem znxt_lt {W : Nat → Nat → Bool} {h j : Nat} (q : znxt W n h = some j) : j < n := by
  unfold znxt at q
  split at q
  · rename_i w
    obtain ⟨i, h1, h2⟩ := zany_iff.1 w
    cases q
    have := (zlow_ok (f := W h) (d := n) (i := 0) (Nat.zero_le i) (by omega) h2).1
    omega
  · cases q
theorem zm1 (c : Nat) (hc : c < 2147483648) : ¬ Int32.ofNat c = -1 := fun w => by
  have := congrArg Int32.toInt w
  rw [Int32.toInt_ofNat_of_lt (by omega)] at this
  have e : ((-1 : Int32)).toInt = -1 := rfl
  omega
theorem zor_bits8 {seen : Nat → Bool} {a : Nat} (ha : a < 8) : zbits seen 8 ||| zbit a = zbits (va_up seen a true) 8 := by
  rw [zbits_or seen (Nat.le_refl 8) ha]
  refine zbits_congr fun j _ => ?_
  show _ = if j = a then true else seen j
  by_cases c : j = a
  · rw [if_pos c, decide_eq_true c, Bool.or_true]
  · rw [if_neg c, decide_eq_false c, Bool.or_false]
/-- what stands of a play while its ring is told: the Life that was played, the row of hands at cell t -/
theorem zc_rd_b40 {t : Nat} (hI : zinv P n S) (hw : zwok n S) (hB : gB E ≤ t) (htx : x + 2253 ≤ t) : ∀ F F' (at' : Option Nat) (seen : Nat → Bool) (c : Nat) (row : Nat → Nat) (G : g_G), 8 < F + c → F < F' → (∀ a, at' = some a → a < n) → c = zcnt seen n → zXS G x → zCX R P A G → (∀ a, R a → a ≠ t) → zCL P A G (x + 14) n S T → gcl G t = 100 → gln G t = 8 → (∀ i, i < c → gI G t i = Int32.ofNat (row i)) → (∀ a, a < n → seen a = true → ∃ i, i < c ∧ row i = a) →
    ∃ G1, fX1_rounds_b40 E F' x (zbits seen 8) (znum at') (some t) (Int32.ofNat c) G = fX1_rounds_b96 E x (znum (zrw (zwp P n S) n F at' seen c row).1) (some t) (Int32.ofNat (zrw (zwp P n S) n F at' seen c row).2.1) G1 ∧ zFr (fun a => a = t) G G1 ∧ (∀ i, i < (zrw (zwp P n S) n F at' seen c row).2.1 → gI G1 t i = Int32.ofNat ((zrw (zwp P n S) n F at' seen c row).2.2 i)) ∧
      (zrw (zwp P n S) n F at' seen c row).2.1 ≤ 8 ∧ ∀ a, (zrw (zwp P n S) n F at' seen c row).1 = some a → a < n ∧ ∃ i, i < (zrw (zwp P n S) n F at' seen c row).2.1 ∧ (zrw (zwp P n S) n F at' seen c row).2.2 i = a
  | 0, F', at', seen, c, row, G, h1, _, _, h3, _, _, _, hC, _, _, _, _ => by
    have := zcnt_le seen n
    have := hC.n8
    omega
  | F + 1, F', at', seen, c, row, G, h1, h2, hat', h3, hXS, hX, hRt, hC, k1, k2, hrow, hseen => by
    obtain ⟨F', rfl⟩ := z_suc h2
    have hn := hC.n8
    have hL := hC.1
    have hcn := zcnt_le seen n
    rw [fX1_rounds_b40, zrw_succ]
    cases at' with
    | none =>
      rw [if_pos (show znum none = -1 from rfl)]
      exact ⟨G, rfl, zFr.refl _ _, hrow, by dsimp only; omega, fun a q => by cases q⟩
    | some a =>
      have ha := hat' a rfl
      have ea : znum (some a) = Int32.ofNat a := rfl
      rw [ea, if_neg (zm1 a (by omega))]
      simp only [zbits_test seen (Nat.le_refl 8) (show a < 8 by omega)]
      by_cases cs : seen a = true
      · rw [if_pos (by rw [cs]; decide), if_pos cs]
        exact ⟨G, rfl, zFr.refl _ _, hrow, by dsimp only; omega, fun b q => by
          cases q
          exact ⟨ha, hseen a ha cs⟩⟩
      · have cs' : seen a = false := by simpa using cs
        rw [if_neg (fun q => q cs'), if_neg cs]
        have hcs := zcnt_set seen a cs' n
        rw [if_pos ha] at hcs
        have hle := zcnt_le (va_up seen a true) n
        have c8 : c < gln G t := by omega
        have f1 : zFr (fun b => b = t) G (gsI G t c (Int32.ofNat a)) := zFr.wI rfl
        have hC1 : zCL P A (gsI G t c (Int32.ofNat a)) (x + 14) n S T := hC.fr f1 (fun b hb q => by unfold zIn at hb; omega)
        have hX1 : zCX R P A (gsI G t c (Int32.ofNat a)) := hX.fr f1 hRt
        have hXS1 : zXS (gsI G t c (Int32.ofNat a)) x := hXS
        have wt := zc_wait (E := E) (x := x) hC1 hX1 hI hw ha
        have z0 := zbits_0 (f := zwp P n S a) hn
        obtain ⟨G1, g1, g2, g3, g4, g5⟩ := zc_rd_b40 hI hw hB htx F F' (znxt (zwp P n S) n a) (va_up seen a true) (c + 1) (va_up row c a) (gsI G t c (Int32.ofNat a)) (by omega) (by omega) (fun b q => znxt_lt q) (by omega) hXS1 hX1 hRt hC1 k1 k2 (fun i hi => by
          rw [zq_II]
          show _ = Int32.ofNat (if i = c then a else row i)
          by_cases ci : i = c
          · rw [if_pos ⟨rfl, ci⟩, if_pos ci]
          · rw [if_neg (fun q => ci q.2), if_neg ci, hrow i (by omega)]) (fun b hb hs => by
          have hs : (if b = a then true else seen b) = true := hs
          by_cases cb : b = a
          · exact ⟨c, Nat.lt_succ_self c, by show (if c = c then a else row c) = b; rw [if_pos rfl, cb]⟩
          · rw [if_neg cb] at hs
            obtain ⟨i, i1, i2⟩ := hseen b hb hs
            exact ⟨i, by omega, by show (if i = c then a else row i) = b; rw [if_neg (by omega), i2]⟩)
        refine ⟨G1, ?_, f1.trans g2, g3, g4, g5⟩
        rw [zp_saI hB k1 c8 (by omega)]
        simp only [↓zx_rI, ↓zx_rT, ↓zx_chk, ↓zx_ce, ↓zx_r5, ↓zx_r6, ↓zx_r7, ↓zx_r8, ↓zx_r9, ↓zx_r12, ↓zx_r16, ↓zx_r17, ↓zx_r19, ↓zx_r20, ↓zx_r22, ↓zx_r23, ↓zx_r24, ↓zx_r28, ↓zx_r29, ↓zx_r30, ↓zx_r32, ↓zx_a4, ↓zx_a5, ↓zx_a6, ↓zx_a7, ↓zx_a8, ↓zx_a9, ↓zx_a12, ↓zx_a13, ↓zx_a25, ↓zx_a26, ↓zx_a27, ↓zx_a28, ↓zx_a29, ↓zx_a30, zXS_I, hXS1, wt, Option.bind_some, fX1_rounds_b92, zi_inc]
        have eb : (zbits seen 8 ||| 1 <<< (Int32.ofNat a &&& 31)) = zbits (va_up seen a true) 8 := zor_bits8 (by omega)
        rw [eb]
        unfold znxt at g1 ⊢
        by_cases cz : zany (zwp P n S a) n = true
        · rw [if_pos cz] at g1 ⊢
          obtain ⟨j, j1, j2⟩ := zany_iff.1 cz
          have nz : ¬ zbits (zwp P n S a) n = 0 := by
            rw [z0, cz]
            decide
          rw [if_pos nz, zc_ntz hn j1 j2, Option.bind_some]
          exact g1
        · rw [if_neg cz] at g1 ⊢
          have nz : zbits (zwp P n S a) n = 0 := by
            rw [z0]
            simpa using cz
          rw [if_neg (fun q => q nz)]
          exact g1
theorem zfrm_succ (row : Nat → Nat) (a d i : Nat) : zfrm row a (d + 1) i = if row i = a then i else zfrm row a d (i + 1) := rfl
theorem zfrm_ok {row : Nat → Nat} {a : Nat} : ∀ {d i j : Nat}, i ≤ j → j < i + d → row j = a → i ≤ zfrm row a d i ∧ zfrm row a d i < i + d
  | 0, i, j, h1, h2, _ => absurd h2 (by omega)
  | d + 1, i, j, h1, h2, h3 => by
    rw [zfrm_succ]
    by_cases c : row i = a
    · rw [if_pos c]
      omega
    · rw [if_neg c]
      have : i ≠ j := fun q => c (q ▸ h3)
      have := zfrm_ok (row := row) (a := a) (d := d) (i := i + 1) (j := j) (by omega) (by omega) h3
      omega
theorem zc_rd_b123 {t c from' : Nat} {row : Nat → Nat} (hB : gB E ≤ x) (htx : x + 2253 ≤ t) (k1 : gcl G t = 100) (k2 : gln G t = 8) (hc : c ≤ 8) (hXS0 : zXS G x) (hrow : ∀ i, i < c → gI G t i = Int32.ofNat (row i)) : ∀ d F i (G1 : g_G), c - i = d → from' ≤ i → i ≤ c → d < F → zFr (fun a => a = x ∨ a = x + 27) G G1 → gI G1 x 27 = Int32.ofNat (i - from') → (∀ j, j ≠ 27 → gI G1 x j = gI G x j) → gR G1 x = gR G x → (∀ j, j < i - from' → gI G1 (x + 27) j = Int32.ofNat (row (from' + j))) →
    ∃ G2, fX1_rounds_b123 E F x (some t) (Int32.ofNat c) (Int32.ofNat i) G1 = some G2 ∧ zFr (fun a => a = x ∨ a = x + 27) G G2 ∧ gI G2 x 27 = Int32.ofNat (c - from') ∧ (∀ j, j ≠ 27 → gI G2 x j = gI G x j) ∧ gR G2 x = gR G x ∧ ∀ j, j < c - from' → gI G2 (x + 27) j = Int32.ofNat (row (from' + j))
  | d, F, i, G1, hd, hfi, hi, hF, hFr, h27, hx, hR, hj => by
    obtain ⟨F, rfl⟩ := z_suc hF
    have hXS : zXS G1 x := hXS0.fr hFr hR
    rw [fX1_rounds_b123]
    cases d with
    | zero =>
      obtain rfl : i = c := by omega
      rw [if_pos (zi_le (by omega) (by omega))]
      exact ⟨G1, rfl, hFr, h27, hx, hR, hj⟩
    | succ d =>
      have i8 : i - from' < 8 := by omega
      have et : gI G1 t i = Int32.ofNat (row i) := by rw [hFr.I (by omega), hrow i (by omega)]
      rw [if_neg (zi_nle (by omega) (by omega))]
      have h27' : ∀ v, gI (gsI G1 (x + 27) (i - from') v) x 27 = Int32.ofNat (i - from') := fun v => by rw [zq_II, if_neg (by omega), h27]
      simp only [↓zx_rI, ↓zx_rT, ↓zx_chk, ↓zx_ce, ↓zx_r5, ↓zx_r6, ↓zx_r7, ↓zx_r8, ↓zx_r9, ↓zx_r12, ↓zx_r16, ↓zx_r17, ↓zx_r19, ↓zx_r20, ↓zx_r22, ↓zx_r23, ↓zx_r24, ↓zx_r28, ↓zx_r29, ↓zx_r30, ↓zx_r32, ↓zx_a4, ↓zx_a5, ↓zx_a6, ↓zx_a7, ↓zx_a8, ↓zx_a9, ↓zx_a12, ↓zx_a13, ↓zx_a25, ↓zx_a26, ↓zx_a27, ↓zx_a28, ↓zx_a29, ↓zx_a30, zXS_I, ↓zx_pI, ↓zx_pZ, ↓zx_pR, ↓zx_s4, ↓zx_s5, ↓zx_s6, ↓zx_s7, ↓zx_s8, ↓zx_s12, ↓zx_s13, ↓zx_s25, ↓zx_s26, ↓zx_s27, ↓zx_s28, ↓zx_s29, ↓zx_s30, hXS, hB, h27, zp_aI (show gcl G1 t = 100 by rw [hFr.cl]; exact k1) (show i < gln G1 t by rw [hFr.ln]; omega) (show i < 2147483648 by omega), et, i8, h27', zi_inc]
      exact zc_rd_b123 hB htx k1 k2 hc hXS0 hrow d F (i + 1) _ (by omega) (by omega) (by omega) (by omega) ((hFr.wI2 (Or.inr rfl)).wI2 (Or.inl rfl)) (by rw [zq_II, if_pos ⟨rfl, rfl⟩]; congr 1; omega) (fun j hj2 => by rw [zq_II, if_neg (fun q => hj2 q.2), zq_II, if_neg (by omega), hx j hj2]) hR (fun j hj2 => by
        rw [zq_II, if_neg (by omega), zq_II]
        by_cases cj : j = i - from'
        · rw [if_pos ⟨rfl, cj⟩, cj, show from' + (i - from') = i by omega]
        · rw [if_neg (fun q => cj q.2), hj j (by omega)])
theorem zc_rd_b105 {t c a : Nat} {row : Nat → Nat} (k1 : gcl G t = 100) (k2 : gln G t = 8) (hc : c ≤ 8) (ha : a < 8) (hr : ∀ i, i < c → row i < 8) (hrow : ∀ i, i < c → gI G t i = Int32.ofNat (row i)) : ∀ d F i, i + d = c → d < F → (∃ j, i ≤ j ∧ j < c ∧ row j = a) →
    fX1_rounds_b105 E F x (Int32.ofNat a) (some t) (Int32.ofNat c) (Int32.ofNat i) G = fX1_rounds_b123 E gFU x (some t) (Int32.ofNat c) (Int32.ofNat (zfrm row a d i)) G
  | 0, F, i, hd, hF, ⟨j, h1, h2, _⟩ => absurd h2 (by omega)
  | d + 1, F, i, hd, hF, ⟨j, h1, h2, h3⟩ => by
    obtain ⟨F, rfl⟩ := z_suc hF
    rw [fX1_rounds_b105, zp_aI k1 (show i < gln G t by omega) (by omega), hrow i (by omega), zfrm_succ]
    have e := zi_eq (a := row i) (b := a) (by have := hr i (by omega); omega) (by omega)
    by_cases q : row i = a
    · rw [if_pos (by rw [q]), if_pos q]
    · rw [if_neg (by rw [e]; exact q), if_neg q, zi_inc]
      have : i ≠ j := fun w => q (w ▸ h3)
      exact zc_rd_b105 k1 k2 hc ha hr hrow d F (i + 1) (by omega) (by omega) ⟨j, by omega, h2, h3⟩
theorem zrw_row {W : Nat → Nat → Bool} : ∀ F (at' : Option Nat) (seen : Nat → Bool) (c : Nat) (row : Nat → Nat), (∀ a, at' = some a → a < n) → (∀ i, i < c → row i < n) → ∀ i, i < (zrw W n F at' seen c row).2.1 → (zrw W n F at' seen c row).2.2 i < n
  | 0, _, _, c, row, _, h => h
  | F + 1, at', seen, c, row, h1, h => by
    rw [zrw_succ]
    cases at' with
    | none => exact h
    | some a =>
      dsimp only
      by_cases cs : seen a = true
      · rw [if_pos cs]
        exact h
      · rw [if_neg cs]
        exact zrw_row F _ _ _ _ (fun b q => znxt_lt q) (fun i hi => by
          show (if i = c then a else row i) < n
          by_cases ci : i = c
          · rw [if_pos ci]
            exact h1 a rfl
          · rw [if_neg ci]
            exact h i (by omega))
theorem zc_rounds (hX : zCt R P A E G x o) (hz : x + 2253 ≤ gsz G) (hRz : ∀ a, R a → a < gsz G) (hC : zCL P A G (x + 14) n S T) (hI : zinv P n S) (hw : zwok n S) (hm : gsz G + 1 ≤ gMc E) (hs : gsl G + 8 ≤ gMs E) :
    ∃ G1, fX1_rounds E x G = some G1 ∧ zFn (fun a => a = x ∨ a = x + 27) G G1 ∧ gI G1 x 27 = Int32.ofNat (zring P n S).1 ∧ (∀ j, j ≠ 27 → gI G1 x j = gI G x j) ∧ gR G1 x = gR G x ∧ (∀ j, j < (zring P n S).1 → gI G1 (x + 27) j = Int32.ofNat ((zring P n S).2 j)) ∧ gsz G1 = gsz G + 1 ∧ gsl G1 = gsl G + 8 ∧ (zring P n S).1 ≤ 8 := by
  have hXS := hX.1
  have hB := hX.2.2.1
  have hn := hC.n8
  have f0 : zFr (fun a => a = x) G (gsI G x 27 0) := zFr.wI rfl
  have hC0 : zCL P A (gsI G x 27 0) (x + 14) n S T := hC.fr f0 (fun a ha q => by unfold zIn at ha; omega)
  have hL0 := hC0.1
  have hXS0 : zXS (gsI G x 27 0) x := hXS
  have hR0 : ∀ a, R a → ¬ a = x := fun a ha q => by have := hX.2.2.2.1 a ha; omega
  have hX0 : zCX R P A (gsI G x 27 0) := hX.2.1.fr f0 hR0
  -- the row
  have fn : zFn (fun _ => False) (gsI G x 27 0) (gnew (gsI G x 27 0) 100 8) := zFn.new
  have hC1 : zCL P A (gnew (gsI G x 27 0) 100 8) (x + 14) n S T := hC0.fn fn (show x + 14 + 10 < gsz G by omega) (fun _ _ q => q)
  have hX1 : zCX R P A (gnew (gsI G x 27 0) 100 8) := hX0.fn fn (fun a ha => ⟨hRz a ha, id⟩)
  have hXS1 : zXS (gnew (gsI G x 27 0) 100 8) x := hXS0.fn fn hz id
  have kt : gcl (gnew (gsI G x 27 0) 100 8) (gsz G) = 100 := if_pos rfl
  have lt : gln (gnew (gsI G x 27 0) 100 8) (gsz G) = 8 := if_pos rfl
  have start : fX1_rounds E x G = fX1_rounds_b40 E gFU x 0 (znum (zst0 P n S)) (some (gsz G)) 0 (gnew (gsI G x 27 0) 100 8) := by
    have e8 : ∀ G : g_G, gnewA E G 100 8 = gnewA E G 100 (Int32.ofNat 8) := fun _ => rfl
    have b31 : ∀ v, fX1_rounds_b31 E x 0 v (gsI G x 27 0) = fX1_rounds_b40 E gFU x 0 v (some (gsz G)) 0 (gnew (gsI G x 27 0) 100 8) := fun v => by
      rw [fX1_rounds_b31, e8, zp_newA (Nat.le_of_ble_eq_true rfl) (show gsz (gsI G x 27 0) + 1 ≤ gMc E from hm) (show gsl (gsI G x 27 0) + 8 ≤ gMs E from hs)]
      rfl
    have z0 := zbits_0 (f := fun h => decide (hat (sh S h) < zN P)) hn
    rw [fX1_rounds]
    simp only [↓zx_rI, ↓zx_rT, ↓zx_chk, ↓zx_ce, ↓zx_r5, ↓zx_r6, ↓zx_r7, ↓zx_r8, ↓zx_r9, ↓zx_r12, ↓zx_r16, ↓zx_r17, ↓zx_r19, ↓zx_r20, ↓zx_r22, ↓zx_r23, ↓zx_r24, ↓zx_r28, ↓zx_r29, ↓zx_r30, ↓zx_r32, ↓zx_a4, ↓zx_a5, ↓zx_a6, ↓zx_a7, ↓zx_a8, ↓zx_a9, ↓zx_a12, ↓zx_a13, ↓zx_a25, ↓zx_a26, ↓zx_a27, ↓zx_a28, ↓zx_a29, ↓zx_a30, zXS_I, ↓zx_pI, ↓zx_pZ, ↓zx_pR, ↓zx_s4, ↓zx_s5, ↓zx_s6, ↓zx_s7, ↓zx_s8, ↓zx_s12, ↓zx_s13, ↓zx_s25, ↓zx_s26, ↓zx_s27, ↓zx_s28, ↓zx_s29, ↓zx_s30, hXS, hB, hXS0, ↓zl_rI, ↓zl_r3, ↓zl_r4, ↓zl_r5, ↓zl_r6, ↓zl_r7, ↓zl_r8, ↓zl_r9, ↓zl_r10, ↓zl_r11, ↓zl_r12, ↓zl_chk, ↓zl_a1, ↓zl_a2, ↓zl_a3, ↓zl_a4, ↓zl_a5, ↓zl_a6, ↓zl_a7, ↓zl_a8, ↓zl_a9, ↓zl_a10, zLS_I, hL0, zc_bits hC0, Option.bind_some]
    unfold zlive zst0
    by_cases c : zany (fun h => decide (hat (sh S h) < zN P)) n = true
    · obtain ⟨j, j1, j2⟩ := zany_iff.1 c
      rw [if_pos (by rw [z0, c]; decide), if_pos c, zc_ntz hn j1 j2, Option.bind_some]
      exact b31 _
    · have c' : zany (fun h => decide (hat (sh S h) < zN P)) n = false := by simpa using c
      rw [if_neg (by rw [z0]; exact fun q => q c'), if_neg c]
      exact b31 _
  obtain ⟨G2, g1, g2, g3, g4, g5⟩ := zc_rd_b40 (R := R) (P := P) (A := A) (E := E) (x := x) (T := T) (t := gsz G) hI hw (by omega) hz 9 gFU (zst0 P n S) (fun _ => false) 0 (fun _ => 0) (gnew (gsI G x 27 0) 100 8) (by omega) (z_F _ (by omega)) (fun a q => zpa_na q) (by
    have : ∀ k, zcnt (fun _ => false) k = 0 := fun k => by
      induction k with
      | zero => rfl
      | succ k ih => rw [zcnt_succ, if_neg (by decide), ih]
    exact (this n).symm) hXS1 hX1 (fun a ha q => by have := hRz a ha; omega) hC1 kt lt (fun i hi => absurd hi (Nat.not_lt_zero i)) (fun a _ q => by cases q)
  have hrw := zrw_row (n := n) (W := zwp P n S) 9 (zst0 P n S) (fun _ => false) 0 (fun _ => 0) (fun a q => zpa_na q) (fun i hi => absurd hi (Nat.not_lt_zero i))
  have g1' : fX1_rounds_b40 E gFU x 0 (znum (zst0 P n S)) (some (gsz G)) 0 (gnew (gsI G x 27 0) 100 8) = _ := g1
  rw [start, g1', fX1_rounds_b96]
  unfold zring zrg
  generalize hq : zrw (zwp P n S) n 9 (zst0 P n S) (fun _ => false) 0 (fun _ => 0) = q at *
  have fG2 : zFn (fun a => a = x ∨ a = x + 27) G G2 := ((f0.fn).mono (fun a _ q => Or.inl q)).trans ((fn.mono (X' := fun a => a = gsz G) (fun _ _ q => q.elim)).trans g2.fn (fun a _ q => q)) (fun a ha q => by omega)
  have ex2 : ∀ j, gI G2 x j = if j = 27 then 0 else gI G x j := fun j => by
    rw [g2.I (by omega), fn.I (show x < gsz G by omega) id, zq_II]
    by_cases c : j = 27
    · rw [if_pos ⟨rfl, c⟩, if_pos c]
    · rw [if_neg (fun q => c q.2), if_neg c]
  have eR2 : gR G2 x = gR G x := by
    rw [g2.R (by omega), fn.R (show x < gsz G by omega) id]
    rfl
  have z2 : gsz G2 = gsz G + 1 := by rw [g2.1]; rfl
  have s2 : gsl G2 = gsl G + 8 := by rw [g2.2.1]; rfl
  cases hq1 : q.1 with
  | none =>
    rw [if_neg (show ¬ ¬ znum none = -1 from fun w => w rfl)]
    exact ⟨G2, rfl, fG2, by rw [ex2, if_pos rfl]; rfl, fun j hj => by rw [ex2, if_neg hj], eR2, fun j hj => absurd hj (Nat.not_lt_zero j), z2, s2, Nat.zero_le _⟩
  | some a =>
    obtain ⟨ha, i, i1, i2⟩ := g5 a hq1
    have ok := zfrm_ok (row := q.2.2) (a := a) (d := q.2.1) (i := 0) (Nat.zero_le i) (by omega) i2
    have hXS2 : zXS G2 x := hXS1.fr g2 (g2.R (by omega))
    rw [if_pos (show ¬ znum (some a) = -1 from zm1 a (by omega))]
    have b105 := zc_rd_b105 (E := E) (x := x) (G := G2) (t := gsz G) (c := q.2.1) (a := a) (row := q.2.2) (by rw [g2.cl]; exact kt) (by rw [g2.ln]; exact lt) g4 (by omega) (fun i hi => by have := hrw i hi; omega) g3 q.2.1 gFU 0 (by omega) (z_F _ (by omega)) ⟨i, Nat.zero_le _, i1, i2⟩
    have b105' : fX1_rounds_b105 E gFU x (znum (some a)) (some (gsz G)) (Int32.ofNat q.2.1) 0 G2 = _ := b105
    rw [b105']
    obtain ⟨G3, w1, w2, w3, w4, w5, w6⟩ := zc_rd_b123 (E := E) (x := x) (G := G2) (t := gsz G) (c := q.2.1) (from' := zfrm q.2.2 a q.2.1 0) (row := q.2.2) hB hz (by rw [g2.cl]; exact kt) (by rw [g2.ln]; exact lt) g4 hXS2 g3 (q.2.1 - zfrm q.2.2 a q.2.1 0) gFU (zfrm q.2.2 a q.2.1 0) G2 rfl (Nat.le_refl _) (by omega) (z_F _ (by omega)) (zFr.refl _ _) (by rw [ex2, if_pos rfl, Nat.sub_self]; rfl) (fun _ _ => rfl) rfl (fun j hj => absurd hj (by omega))
    refine ⟨G3, w1, fG2.trans w2.fn (fun a _ q => q), w3, fun j hj => by rw [w4 j hj, ex2, if_neg hj], by rw [w5, eR2], w6, by rw [w2.1, z2], by rw [w2.2.1, s2], by show q.2.1 - zfrm q.2.2 a q.2.1 0 ≤ 8; omega⟩
end Z28
