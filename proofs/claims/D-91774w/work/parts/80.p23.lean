/-! THE PLAIN LAW, 23: the class goes through all states -/
set_option maxRecDepth 100000
def zxm (P : zPr) (o : Nat → Bool) (n r k h : Nat) : Nat → Nat → zX → Bool × zX
  | 0, _, X => (true, X)
  | d + 1, f, X => if zmf P n r (xs X k) h f = true then (if (ztry P o n r X k h f).1 = true then zxm P o n r k h d (f + 1) (ztry P o n r X k h f).2 else ztry P o n r X k h f) else zxm P o n r k h d (f + 1) X
def zno (g : Nat → Bool) : Nat → Nat → Bool
  | 0, _ => true
  | d + 1, f => !g f && zno g d (f + 1)
section Z23
variable {P : zPr} {A : Nat → Nat} {E : g_E} {G : g_G} {l n : Nat} {S : zS} {T : Nat → Int32} {R : Nat → Prop} {x r : Nat} {o : Nat → Bool} {X : zX}
theorem zxm_succ (k h d f : Nat) (X : zX) : zxm P o n r k h (d + 1) f X = if zmf P n r (xs X k) h f = true then (if (ztry P o n r X k h f).1 = true then zxm P o n r k h d (f + 1) (ztry P o n r X k h f).2 else ztry P o n r X k h f) else zxm P o n r k h d (f + 1) X := rfl
theorem zno_succ (g : Nat → Bool) (d f : Nat) : zno g (d + 1) f = (!g f && zno g d (f + 1)) := rfl
theorem zno_iff {g : Nat → Bool} : ∀ {d f : Nat}, zno g d f = true ↔ ∀ j, f ≤ j → j < f + d → g j = false
  | 0, f => ⟨fun _ j h1 h2 => absurd h2 (by omega), fun _ => rfl⟩
  | d + 1, f => by
    rw [zno_succ, Bool.and_eq_true, zno_iff (d := d)]
    constructor
    · intro q j h1 h2
      by_cases c : j = f
      · subst c
        simpa using q.1
      · exact q.2 j (by omega) (by omega)
    · intro q
      exact ⟨by simpa using q f (Nat.le_refl _) (by omega), fun j h1 h2 => q j (by omega) (by omega)⟩
theorem zxm_any {k h : Nat} (c : zK P (xs X k) h = 4) (hk : k < xn X) : ∀ d f (Y : zX), zgt' X Y → zxm P o n r k h d f Y = zxo P o n r k h d f Y
  | 0, _, _, _ => rfl
  | d + 1, f, Y, hY => by
    have e : xs Y k = xs X k := hY.2 k hk
    have ez : zmf P n r (xs Y k) h f = zcan P n r (xs Y k) h f := by
      unfold zmf
      rw [e, if_pos c]
    rw [zxm_succ, zxo_succ, ez, zxm_any c hk d (f + 1) Y hY, zxm_any c hk d (f + 1) _ (hY.trans ztry_gt)]
theorem zxm_none {k h : Nat} (hk : k < xn X) : ∀ d f, (∀ j, f ≤ j → j < f + d → zmf P n r (xs X k) h j = true → False) → zxm P o n r k h d f X = (true, X)
  | 0, _, _ => rfl
  | d + 1, f, hz => by
    rw [zxm_succ, if_neg (fun q => hz f (Nat.le_refl _) (by omega) q)]
    exact zxm_none hk d (f + 1) (fun j h1 h2 => hz j (by omega) (by omega))
theorem zxm_past {k h : Nat} (c : zK P (xs X k) h ≠ 4) : ∀ d f, h < f → zxm P o n r k h d f X = (true, X)
  | 0, _, _ => rfl
  | d + 1, f, hf => by
    rw [zxm_succ, if_neg]
    · exact zxm_past c d (f + 1) (by omega)
    · unfold zmf
      rw [if_neg c, decide_eq_false (by omega)]
      simp
theorem zxm_one {k h : Nat} (c : zK P (xs X k) h ≠ 4) (hk : k < xn X) (hc : zcan P n r (xs X k) h 0 = true) : ∀ d f, f ≤ h → h < f + d → zxm P o n r k h d f X = ztry P o n r X k h h
  | 0, f, h1, h2 => absurd h2 (by omega)
  | d + 1, f, h1, h2 => by
    rw [zxm_succ]
    unfold zmf
    rw [if_neg c]
    by_cases q : f = h
    · subst q
      rw [decide_eq_true rfl, hc, if_pos (show (true && true) = true from rfl)]
      have e : xs (ztry P o n r X k f f).2 k = xs X k := ztry_gt.2 k hk
      rw [zxm_past (X := (ztry P o n r X k f f).2) (by rw [e]; exact c) d (f + 1) (Nat.lt_succ_self f)]
      by_cases q2 : (ztry P o n r X k f f).1 = true
      · rw [if_pos q2]
        exact Prod.ext q2.symm rfl
      · rw [if_neg q2]
    · rw [decide_eq_false q]
      simp only [Bool.false_and, Bool.false_eq_true, ↓reduceIte]
      exact zxm_one c hk hc d (f + 1) (by omega) (by omega)
theorem zxm_h {k h : Nat} (hk : k < xn X) (hh : h < n) : zxm P o n r k h n 0 X = zxh P o n r k h X := by
  unfold zxh
  by_cases c : zK P (xs X k) h = 4
  · rw [if_pos c]
    exact zxm_any c hk n 0 X zgt'.refl
  · rw [if_neg c]
    by_cases c2 : zcan P n r (xs X k) h 0 = true
    · rw [if_pos c2]
      exact zxm_one c hk c2 n 0 (Nat.zero_le _) (by omega)
    · rw [if_neg c2]
      refine zxm_none hk n 0 (fun f _ _ q => ?_)
      unfold zmf at q
      rw [if_neg c, Bool.and_eq_true] at q
      exact c2 q.2
theorem zany_iff {f : Nat → Bool} : ∀ {k : Nat}, zany f k = true ↔ ∃ j, j < k ∧ f j = true
  | 0 => ⟨fun q => (by cases q), fun ⟨j, h, _⟩ => absurd h (Nat.not_lt_zero j)⟩
  | k + 1 => by
    rw [zany_succ, Bool.or_eq_true, zany_iff (k := k)]
    constructor
    · rintro (⟨j, h1, h2⟩ | h)
      · exact ⟨j, by omega, h2⟩
      · exact ⟨k, by omega, h⟩
    · rintro ⟨j, h1, h2⟩
      by_cases c : j = k
      · subst c
        exact Or.inr h2
      · exact Or.inl ⟨j, by omega, h2⟩
theorem zno_has {S : zS} {h : Nat} (hh : h < n) : zno (zmf P n r S h) n 0 = !zhas P n r S h := by
  rw [Bool.eq_iff_iff, zno_iff]
  unfold zhas zmf
  by_cases c : zK P S h = 4
  · simp only [if_pos c, Bool.not_eq_true', ← Bool.not_eq_true, zany_iff]
    constructor
    · rintro q ⟨j, h1, h2⟩
      exact q j (Nat.zero_le _) (by omega) h2
    · intro q j h1 h2 h3
      exact q ⟨j, by omega, h3⟩
  · simp only [if_neg c, Bool.not_eq_true', Bool.and_eq_false_iff, decide_eq_false_iff_not]
    constructor
    · intro q
      rcases q h (Nat.zero_le _) (by omega) with w | w
      · exact absurd rfl w
      · exact w
    · intro q j h1 h2
      exact Or.inr q
theorem zmf_can {S : zS} {h f : Nat} (q : zmf P n r S h f = true) : zcan P n r S h f = true := by
  unfold zmf at q
  by_cases c : zK P S h = 4
  · rw [if_pos c] at q
    exact q
  · rw [if_neg c, Bool.and_eq_true] at q
    have e : zcan P n r S h f = zcan P n r S h 0 := by
      unfold zcan
      rw [if_neg (show ¬ zK P S h = 4 from c), if_neg (show ¬ zK P S h = 4 from c)]
    rw [e]
    exact q.2
theorem zc_gt_b99 {k h : Nat} {bits : Int32} (k59 : Nat → Int32 → Int32 → g_G → Option (Int32 × g_G)) (k72 : Nat → Int32 → Int32 → Int32 → Int32 → g_G → Option (Int32 × g_G)) (hh : h < n) (hn : n ≤ 8) (hr : r < 1000) : ∀ d F f (X : zX) (G : g_G) (e : Bool), n - f = d → f ≤ n → d < F → k < xn X → zXR R P A E G x o n X → bits = zbits (zmf P n r (xs X k) h) n →
    ∃ G1, ((zxm P o n r k h d f X).1 = true → fX1_goesThrough_b99 E k59 k72 F x (Int32.ofNat r) (Int32.ofNat k) (zb e) (Int32.ofNat h) bits (Int32.ofNat f) G = k72 x (Int32.ofNat r) (Int32.ofNat k) (zb (e && zno (zmf P n r (xs X k) h) d f)) (Int32.ofNat (h + 1)) G1 ∧ zXR R P A E G1 x o n (zxm P o n r k h d f X).2) ∧
      ((zxm P o n r k h d f X).1 = false → fX1_goesThrough_b99 E k59 k72 F x (Int32.ofNat r) (Int32.ofNat k) (zb e) (Int32.ofNat h) bits (Int32.ofNat f) G = some (0, G1)) ∧ zFr (zFt x) G G1 ∧ zPool G1 x ∧ (∀ j, j ≠ 15 → gI G1 x j = gI G x j) ∧ gR G1 x = gR G x
  | d, F, f, X, G, e, hd, hf, hF, hk, hXR, hb => by
    obtain ⟨F, rfl⟩ := z_suc hF
    have hXS := hXR.1.1
    have h0 := hXR.2.2.2.1
    rw [fX1_goesThrough_b99]
    simp only [↓zx_rI, ↓zx_rT, ↓zx_chk, ↓zx_ce, ↓zx_r5, ↓zx_r6, ↓zx_r7, ↓zx_r8, ↓zx_r9, ↓zx_r12, ↓zx_r16, ↓zx_r17, ↓zx_r19, ↓zx_r20, ↓zx_r22, ↓zx_r23, ↓zx_r24, ↓zx_r28, ↓zx_r29, ↓zx_r30, ↓zx_r32, ↓zx_a4, ↓zx_a5, ↓zx_a6, ↓zx_a7, ↓zx_a8, ↓zx_a9, ↓zx_a12, ↓zx_a13, ↓zx_a25, ↓zx_a26, ↓zx_a27, ↓zx_a28, ↓zx_a29, ↓zx_a30, zXS_I, hXS, h0]
    cases d with
    | zero =>
      rw [if_pos (zi_le (by omega) (by omega)), zi_inc]
      refine ⟨G, fun _ => ⟨?_, hXR⟩, (fun q => by cases q), zFr.refl _ _, hXR.2.1, fun _ _ => rfl, rfl⟩
      show _ = k72 x (Int32.ofNat r) (Int32.ofNat k) (zb (e && true)) (Int32.ofNat (h + 1)) G
      rw [Bool.and_true]
    | succ d =>
      have hf2 : f < n := by omega
      rw [if_neg (zi_nle (by omega) (by omega)), zxm_succ, zno_succ]
      have ht := zbits_test (zmf P n r (xs X k) h) hn hf2
      rw [← hb] at ht
      simp only [ht, fX1_goesThrough_b138, zi_inc]
      cases c : zmf P n r (xs X k) h f
      · simp only [not_true_eq_false, Bool.false_eq_true, ↓reduceIte]
        obtain ⟨G1, g1, g2⟩ := zc_gt_b99 k59 k72 hh hn hr d F (f + 1) X G e (by omega) (by omega) (by omega) hk hXR hb
        refine ⟨G1, fun q => ?_, g2⟩
        rw [Bool.not_false, Bool.true_and]
        exact g1 q
      · simp only [Bool.true_eq_false, not_false_eq_true, ↓reduceIte]
        obtain ⟨G1, t1, t2, t3, t4, t5, t6⟩ := zc_tries (r := r) hXR hk hh (show f < 8 by omega) hr (zmf_can c)
        rw [t1, Option.bind_some]
        simp only [zb_n0]
        have egt : zgt' X (ztry P o n r X k h f).2 := ztry_gt
        by_cases c2 : (ztry P o n r X k h f).1 = true
        · rw [if_pos c2, if_pos c2]
          have e1 : xs (ztry P o n r X k h f).2 k = xs X k := egt.2 k hk
          obtain ⟨G2, g1, g2, g3, g4, g5, g6⟩ := zc_gt_b99 (bits := bits) k59 k72 hh hn hr d F (f + 1) (ztry P o n r X k h f).2 G1 false (by omega) (by omega) (by omega) (Nat.lt_of_lt_of_le hk egt.1) (t6 c2) (by rw [e1]; exact hb)
          refine ⟨G2, fun q => ?_, g2, t2.trans g3, g4, fun j hj => by rw [g5 j hj, t4 j hj], by rw [g6, t5]⟩
          have := g1 q
          rw [Bool.false_and] at this
          rw [Bool.not_true, Bool.false_and, Bool.and_false]
          exact this
        · rw [if_neg c2, if_neg c2]
          refine ⟨G1, fun q => absurd q c2, fun _ => ?_, t2, t3, t4, t5⟩
          simp only [true_or, ↓reduceIte]
/-- what is kept of the endings while states are gone through -/
def zLk (R : Nat → Prop) (G0 G : g_G) (x n pe0 pe : Nat) (L : zL) (m : Nat) : Prop :=
  zEL G x n pe L ∧ ¬ R pe ∧ (pe = pe0 ∨ gsz G0 ≤ pe) ∧ gln G0 pe0 ≤ gln G pe ∧ gln G pe ≤ 400 ∧ gsl G + 4 * gln G0 pe0 ≤ gsl G0 + 12 * m + 4 * gln G pe ∧ gsz G + gln G0 pe0 ≤ gsz G0 + 2 * m + gln G pe
/-- the cells that may be written -/
def zFg (x pe0 a : Nat) : Prop := zFt x a ∨ a = x + 10 ∨ a = pe0
/-- how the class's object stands aside from what is gone through -/
def zKp (G0 G : g_G) (x : Nat) : Prop := (∀ j, j ≠ 15 → gI G x j = gI G0 x j) ∧ gR G x = gR G0 x ∧ zPool G x
theorem zEL.frt {G1 : g_G} {pe : Nat} {L : zL} (h : zEL G x n pe L) (hz : x + 2253 ≤ gsz G) (f : zFr (zFt x) G G1) : zEL G1 x n pe L :=
  h.fn f.fn hz (fun a q w => by unfold zFt at q; omega) (by unfold zFt; omega) (by unfold zFt; omega)
theorem zLk.frt {G0 G1 : g_G} {pe0 pe m : Nat} {L : zL} (h : zLk R G0 G x n pe0 pe L m) (hz : x + 2253 ≤ gsz G) (f : zFr (zFt x) G G1) : zLk R G0 G1 x n pe0 pe L m := by
  obtain ⟨h1, h2, h3, h4, h5, h6, h7⟩ := h
  refine ⟨h1.frt hz f, h2, h3, ?_, ?_, ?_, ?_⟩
  · rw [f.ln]; exact h4
  · rw [f.ln]; exact h5
  · rw [f.ln, f.2.1]; exact h6
  · rw [f.ln, f.1]; exact h7
theorem zc_gt_b72 {G0 : g_G} {k pe0 pe m : Nat} {L : zL} (k59 : Nat → Int32 → Int32 → g_G → Option (Int32 × g_G)) (hn : n ≤ 8) (hr : r < 1000) : ∀ d F h (X : zX) (G : g_G) (e : Bool), n - h = d → h ≤ n → d < F → k < xn X → zXR R P A E G x o n X → x + 2253 ≤ gsz G0 → gsz G0 ≤ gsz G → zFn (zFg x pe0) G0 G → zKp G0 G x → zLk R G0 G x n pe0 pe L m →
    ∃ G1, ((zxk P o n r k d h X).1 = true → (fX1_goesThrough_b72 E k59 F x (Int32.ofNat r) (Int32.ofNat k) (zb e) (Int32.ofNat h) G = if (e && zall (fun h' => !zhas P n r (xs X k) (h + h')) d) = true then (fX1_endsWith E x (some (zpl x k)) G1).bind (fun z => k59 x (Int32.ofNat r) (Int32.ofNat (k + 1)) z) else k59 x (Int32.ofNat r) (Int32.ofNat (k + 1)) G1) ∧ zXR R P A E G1 x o n (zxk P o n r k d h X).2) ∧
      ((zxk P o n r k d h X).1 = false → fX1_goesThrough_b72 E k59 F x (Int32.ofNat r) (Int32.ofNat k) (zb e) (Int32.ofNat h) G = some (0, G1)) ∧ zFn (zFg x pe0) G0 G1 ∧ gsz G0 ≤ gsz G1 ∧ zKp G0 G1 x ∧ zLk R G0 G1 x n pe0 pe L m
  | d, F, h, X, G, e, hd, hh, hF, hk, hXR, hz, hzz, hf, hK, hLk => by
    obtain ⟨F, rfl⟩ := z_suc hF
    have hXS := hXR.1.1
    have h0 := hXR.2.2.2.1
    have k201 : k < 201 := by have := hXR.2.2.2.2.2.1; omega
    have hpl := hXR.2.1 k (by omega)
    rw [fX1_goesThrough_b72]
    simp only [↓zx_rI, ↓zx_rT, ↓zx_chk, ↓zx_ce, ↓zx_r5, ↓zx_r6, ↓zx_r7, ↓zx_r8, ↓zx_r9, ↓zx_r12, ↓zx_r16, ↓zx_r17, ↓zx_r19, ↓zx_r20, ↓zx_r22, ↓zx_r23, ↓zx_r24, ↓zx_r28, ↓zx_r29, ↓zx_r30, ↓zx_r32, ↓zx_a4, ↓zx_a5, ↓zx_a6, ↓zx_a7, ↓zx_a8, ↓zx_a9, ↓zx_a12, ↓zx_a13, ↓zx_a25, ↓zx_a26, ↓zx_a27, ↓zx_a28, ↓zx_a29, ↓zx_a30, zXS_I, hXS, h0, k201, hpl.1]
    cases d with
    | zero =>
      rw [if_pos (zi_le (by omega) (by omega))]
      refine ⟨G, fun _ => ⟨?_, hXR⟩, (fun q => by cases q), hf, hzz, hK, hLk⟩
      show _ = if (e && true) = true then _ else _
      rw [Bool.and_true]
      cases e
      · simp only [zb, Bool.false_eq_true, ↓reduceIte, fX1_goesThrough_b164, zi_inc]
      · simp only [zb, ↓reduceIte, fX1_goesThrough_b164, zi_inc]
        rfl
    | succ d =>
      have hh2 : h < n := by omega
      obtain ⟨⟨T, hC⟩, q2, q3⟩ := hXR.2.2.2.2.2.2.1 k hk
      rw [if_neg (zi_nle (by omega) (by omega)), zc_moves hC hXR.1 q3.1 hh2 hr, Option.bind_some]
      have hb := zmvs_bits (P := P) (r := r) (S := xs X k) hh2
      obtain ⟨G1, g1, g2, g3, g4, g5, g6⟩ := zc_gt_b99 (bits := zmvs P n r (xs X k) h) k59 (fX1_goesThrough_b72 E k59 F) hh2 hn hr n gFU 0 X G e (by omega) (Nat.zero_le _) (z_F _ (by omega)) hk hXR hb
      rw [zxm_h hk hh2] at g1 g2
      rw [zxk_succ]
      have hfG1 : zFn (zFg x pe0) G0 G1 := hf.trans (g3.fn) (fun a _ q => Or.inl q)
      have hK1 : zKp G0 G1 x := ⟨fun j hj => by rw [g5 j hj, hK.1 j hj], by rw [g6, hK.2.1], g4⟩
      have hLk1 := hLk.frt (by omega) g3
      have hz1 : gsz G0 ≤ gsz G1 := by rw [g3.1]; exact hzz
      by_cases c : (zxh P o n r k h X).1 = true
      · obtain ⟨w1, w2⟩ := g1 c
        have w1' : fX1_goesThrough_b99 E k59 (fX1_goesThrough_b72 E k59 F) gFU x (Int32.ofNat r) (Int32.ofNat k) (zb e) (Int32.ofNat h) (zmvs P n r (xs X k) h) 0 G = _ := w1
        rw [if_pos c]
        have egt : zgt' X (zxh P o n r k h X).2 := zxh_gt
        have e1 : xs (zxh P o n r k h X).2 k = xs X k := egt.2 k hk
        obtain ⟨G2, u1, u2, u3⟩ := zc_gt_b72 k59 hn hr d F (h + 1) (zxh P o n r k h X).2 G1 (e && zno (zmf P n r (xs X k) h) n 0) (by omega) (by omega) (by omega) (Nat.lt_of_lt_of_le hk egt.1) w2 hz hz1 hfG1 hK1 hLk1
        refine ⟨G2, fun q => ?_, fun q => ?_, u3⟩
        · obtain ⟨v1, v2⟩ := u1 q
          refine ⟨?_, v2⟩
          rw [w1', v1, e1, zno_has hh2]
          have ez : (e && !zhas P n r (xs X k) h && zall (fun h' => !zhas P n r (xs X k) (h + 1 + h')) d) = (e && zall (fun h' => !zhas P n r (xs X k) (h + h')) (d + 1)) := by
            rw [Bool.and_assoc]
            congr 1
            rw [Bool.eq_iff_iff, Bool.and_eq_true, zall_iff, zall_iff]
            constructor
            · rintro ⟨a1, a2⟩ j hj
              cases j with
              | zero => exact a1
              | succ j =>
                have := a2 j (by omega)
                rw [show h + (j + 1) = h + 1 + j by omega]
                exact this
            · intro a
              refine ⟨a 0 (by omega), fun j hj => ?_⟩
              have := a (j + 1) (by omega)
              rw [show h + 1 + j = h + (j + 1) by omega]
              exact this
          rw [ez]
        · rw [w1']
          exact u2 q
      · have c' : (zxh P o n r k h X).1 = false := by simpa using c
        have w := g2 c'
        have w' : fX1_goesThrough_b99 E k59 (fX1_goesThrough_b72 E k59 F) gFU x (Int32.ofNat r) (Int32.ofNat k) (zb e) (Int32.ofNat h) (zmvs P n r (xs X k) h) 0 G = _ := w
        rw [if_neg c]
        exact ⟨G1, fun q => absurd q c, fun _ => w', hfG1, hz1, hK1, hLk1⟩
theorem zfin_eq {S : zS} : zfin P n r S = zall (fun h' => !zhas P n r S (0 + h')) n := by
  unfold zfin
  simp only [Nat.zero_add]
/-- a state that ends has no move -/
theorem zxk_fin {k : Nat} (hk : k < xn X) : ∀ d h, h + d ≤ n → (∀ j, h ≤ j → j < n → zhas P n r (xs X k) j = false) → zxk P o n r k d h X = (true, X)
  | 0, _, _, _ => rfl
  | d + 1, h, hd, hz => by
    have e : zxh P o n r k h X = (true, X) := by
      rw [← zxm_h hk (show h < n by omega)]
      refine zxm_none hk n 0 (fun f _ hf q => ?_)
      have w := hz h (Nat.le_refl _) (by omega)
      unfold zhas at w
      unfold zmf at q
      by_cases c : zK P (xs X k) h = 4
      · rw [if_pos c] at q w
        rw [zany_t (i := f) (by omega) q] at w
        cases w
      · rw [if_neg c] at q w
        rw [w, Bool.and_false] at q
        cases q
    rw [zxk_succ, e, if_pos rfl]
    exact zxk_fin hk d (h + 1) (by omega) (fun j h1 h2 => hz j (by omega) h2)
theorem zLk.mono {G0 : g_G} {pe0 pe m m' : Nat} {L : zL} (h : zLk R G0 G x n pe0 pe L m) (hm : m ≤ m') : zLk R G0 G x n pe0 pe L m' := by
  obtain ⟨h1, h2, h3, h4, h5, h6, h7⟩ := h
  exact ⟨h1, h2, h3, h4, h5, by omega, by omega⟩
theorem zXR.fn {G1 : g_G} {Y : Nat → Prop} (h : zXR R P A E G x o n X) (f : zFn Y G G1) (hz : x + 2253 ≤ gsz G) (hR : ∀ a, R a → a < gsz G ∧ ¬ Y a) (hY : ∀ a, Y a → a = x + 10 ∨ a = x + 11 ∨ x + 2253 ≤ a) : zXR R P A E G1 x o n X := by
  obtain ⟨h1, h2, h3, h4, h5, h6, h7, h8⟩ := h
  have hx : ¬ Y x := fun q => by have := hY x q; omega
  exact ⟨h1.fn f hz hR hx (fun q => by have := hY _ q; omega), h2.fn f hz (fun a q => by have := hY a q; omega), h3, by rw [f.I (by omega) hx, h4], by rw [f.I (by omega) hx, h5], h6, h7.fn f hz h6.2 (fun a q => by have := hY a q; omega), h8.fn f hz (fun q => by have := hY _ q; omega)⟩
theorem zcap_300 {c : Nat} (h : c ≤ 200) : zcap c ≤ 300 := by unfold zcap; split <;> omega
theorem zc_gt_b59 {G0 : g_G} {pe0 : Nat} (hn : n ≤ 8) (hr : r < 1000) (hz : x + 2253 ≤ gsz G0) (hRz : ∀ a, R a → a < gsz G0) (hroom : gsl G0 + 4 * (400 - gln G0 pe0) + 2400 ≤ gMs E) (hcell : gsz G0 + (400 - gln G0 pe0) + 400 ≤ gMc E) : ∀ d F F' k (X : zX) (G : g_G) (pe : Nat), 200 - k = d → k ≤ xn X → d < F' → d < F → zXR R P A E G x o n X → gsz G0 ≤ gsz G → zFn (zFg x pe0) G0 G → zKp G0 G x → zLk R G0 G x n pe0 pe (zen P n r X k) (zcf P n r X k) → zfew P n r X k →
    ∃ G1 pe1 L1, fX1_goesThrough_b59 E F x (Int32.ofNat r) (Int32.ofNat k) G = some (zb (zxs P o n r F' k X).1, G1) ∧ zFn (zFg x pe0) G0 G1 ∧ zKp G0 G1 x ∧ zLk R G0 G1 x n pe0 pe1 L1 175 ∧ ((zxs P o n r F' k X).1 = true → zXR R P A E G1 x o n (zxs P o n r F' k X).2 ∧ L1 = zen P n r (zxs P o n r F' k X).2 (xn (zxs P o n r F' k X).2))
  | d, F, F', k, X, G, pe, hd, hk, hF', hF, hXR, hzz, hf, hK, hLk, hfew => by
    obtain ⟨F, rfl⟩ := z_suc hF
    obtain ⟨F', rfl⟩ := z_suc hF'
    have hXS := hXR.1.1
    have h15 := hXR.2.2.2.2.1
    have hcn := hXR.2.2.2.2.2.1
    have hP := hXR.1.2.1.1.1
    rw [fX1_goesThrough_b59, zxs_succ]
    simp only [↓zx_rI, ↓zx_rT, ↓zx_chk, ↓zx_ce, ↓zx_r5, ↓zx_r6, ↓zx_r7, ↓zx_r8, ↓zx_r9, ↓zx_r12, ↓zx_r16, ↓zx_r17, ↓zx_r19, ↓zx_r20, ↓zx_r22, ↓zx_r23, ↓zx_r24, ↓zx_r28, ↓zx_r29, ↓zx_r30, ↓zx_r32, ↓zx_a4, ↓zx_a5, ↓zx_a6, ↓zx_a7, ↓zx_a8, ↓zx_a9, ↓zx_a12, ↓zx_a13, ↓zx_a25, ↓zx_a26, ↓zx_a27, ↓zx_a28, ↓zx_a29, ↓zx_a30, zXS_I, hXS, h15]
    by_cases ck : xn X ≤ k
    · have : k = xn X := by omega
      subst this
      rw [if_pos (zi_le ck (by omega)), if_pos ck]
      exact ⟨G, pe, _, rfl, hf, hK, hLk.mono (hfew.bd (Nat.le_refl _)), fun _ => ⟨hXR, rfl⟩⟩
    · cases d with
      | zero => exact absurd hd (by omega)
      | succ d =>
        have hk2 : k < xn X := by omega
        obtain ⟨-, -, q3⟩ := hXR.2.2.2.2.2.2.1 k hk2
        rw [if_neg (zi_nle (by omega) (by omega)), if_neg ck]
        obtain ⟨G1, g1, g2, g3, g4, g5, g6⟩ := zc_gt_b72 (R := R) (A := A) (E := E) (o := o) (fX1_goesThrough_b59 E F) hn hr n gFU 0 X G true (by omega) (Nat.zero_le _) (z_F _ (by omega)) hk2 hXR hz hzz hf hK hLk
        have e0 : ∀ k59, fX1_goesThrough_b72 E k59 gFU x (Int32.ofNat r) (Int32.ofNat k) 1 0 G = fX1_goesThrough_b72 E k59 gFU x (Int32.ofNat r) (Int32.ofNat k) (zb true) (Int32.ofNat 0) G := fun _ => rfl
        rw [e0]
        have hbd := hfew.bd hk
        have hgt := zxk_gt (P := P) (o := o) (n := n) (r := r) (k := k) n 0 X
        by_cases c : (zxk P o n r k n 0 X).1 = true
        · obtain ⟨w1, w2⟩ := g1 c
          have hcn2 := w2.2.2.2.2.2.1
          rw [w1, if_pos c, Bool.true_and, ← zfin_eq]
          cases hfin : zfin P n r (xs X k)
          · rw [if_neg (by decide)]
            have few2 := hfew.step (o := o) hP hn hk2 q3 hfin hcn2.2
            have e1 : zcf P n r (zxk P o n r k n 0 X).2 (k + 1) = zcf P n r X k := by
              rw [zcf_succ, hgt.2 k hk2, hfin, if_neg (by decide), zcf_congr (fun j hj => hgt.2 j (by omega))]
            have e2 : zen P n r (zxk P o n r k n 0 X).2 (k + 1) = zen P n r X k := by
              rw [zen_succ, hgt.2 k hk2, hfin, if_neg (by decide), zen_congr (fun j hj => hgt.2 j (by omega))]
            exact zc_gt_b59 hn hr hz hRz hroom hcell d F F' (k + 1) _ G1 pe (by omega) (Nat.lt_of_lt_of_le hk2 hgt.1) (by omega) (by omega) w2 g4 g3 g5 (by rw [e1, e2]; exact g6) few2
          · rw [if_pos rfl]
            have eX : zxk P o n r k n 0 X = (true, X) := zxk_fin hk2 n 0 (by omega) (fun j _ hj => by
              have := hfin
              unfold zfin at this
              rw [zall_iff] at this
              simpa using this j hj)
            rw [eX] at w2 ⊢
            have few2 := hfew.succ hfin
            obtain ⟨⟨T, hC⟩, -, -⟩ := w2.2.2.2.2.2.2.1 k hk2
            obtain ⟨l1, l2, l3, l4, l5, l6, l7⟩ := g6
            have hLle := zen_le (P := P) (n := n) (r := r) (X := X) (k := k)
            have b175 := few2.bd (show k + 1 ≤ xn X from hk2)
            rw [zcf_succ, if_pos hfin] at b175
            have hc300 := zcap_300 (c := (zen P n r X k).1) (by omega)
            obtain ⟨G2, pe2, v1, v2, v3, v4, v5, v6, v7, v8, v9⟩ := zc_endsWith (E := E) (R := R) w2.1 (by omega) (fun a ha => by have := hRz a ha; omega) l2 w2.2.2.2.1 hC (zpl_Lx (by omega)) l1 (by omega) (by omega) (by omega)
            have hpe' : ∀ a, (a = x + 10 ∨ a = pe) → a = x + 10 ∨ a = x + 11 ∨ x + 2253 ≤ a := fun a ha => by
              have := l1.2.2.2.2
              omega
            have hRn : ∀ a, R a → a < gsz G1 ∧ ¬ (a = x + 10 ∨ a = pe) := fun a ha => ⟨by have := hRz a ha; omega, fun q => by
              rcases q with q | q
              · have := w2.1.2.2.2.1 a ha
                omega
              · exact l2 (q ▸ ha)⟩
            have w3 := w2.fn v3 (by omega) hRn hpe'
            have f3 : zFn (zFg x pe0) G0 G2 := g3.trans v3 (fun a ha q => by
              rcases q with q | q
              · exact Or.inr (Or.inl q)
              · rcases l3 with e | e
                · exact Or.inr (Or.inr (by rw [q, e]))
                · omega)
            have K3 : zKp G0 G2 x := by
              have nx : ¬ (x = x + 10 ∨ x = pe) := fun q => by have := l1.2.2.2.2; omega
              refine ⟨fun j hj => ?_, ?_, w3.2.1⟩
              · rw [v3.I (by omega) nx, g5.1 j hj]
              · rw [v3.R (by omega) nx, g5.2.1]
            have z3 := v3.1
            rw [v1, Option.bind_some]
            refine zc_gt_b59 hn hr hz hRz hroom hcell d F F' (k + 1) X G2 pe2 (by omega) hk2 (by omega) (by omega) w3 (by omega) f3 K3 ⟨?_, v4, ?_, by omega, by omega, ?_, ?_⟩ few2
            · rw [zen_succ, if_pos hfin]
              exact v2
            · rcases v5 with e | e
              · rw [e]
                exact l3
              · exact Or.inr (by omega)
            · rw [zcf_succ, if_pos hfin]
              omega
            · rw [zcf_succ, if_pos hfin]
              omega
        · have c' : (zxk P o n r k n 0 X).1 = false := by simpa using c
          have w := g2 c'
          rw [w, if_neg c, c']
          exact ⟨G1, pe, _, rfl, g3, g5, g6.mono hbd, fun q => by cases q⟩
end Z23
