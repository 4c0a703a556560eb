/-! THE PLAIN LAW, 17: states are gone through: one try -/
set_option maxRecDepth 100000
/-- how many states; the states; whose words the anys take -/
abbrev zX : Type := Nat × (Nat → zS) × (Nat → Nat → Int32)
def xn (X : zX) : Nat := X.1
def xs (X : zX) : Nat → zS := X.2.1
def xc (X : zX) : Nat → Nat → Int32 := X.2.2
def zany (f : Nat → Bool) : Nat → Bool
  | 0 => false
  | k + 1 => zany f k || f k
def ztry (P : zPr) (o : Nat → Bool) (n r : Nat) (X : zX) (k h f : Nat) : Bool × zX :=
  if zany (fun i => zlike n (xs X i) (zmove P o n r (xs X k) h f)) (xn X) = true then (true, (xn X, xs X, znote P n r (xs X k) h f (xc X)))
  else if xn X = 200 then (false, (xn X, xs X, znote P n r (xs X k) h f (xc X)))
  else (true, (xn X + 1, va_up (xs X) (xn X) (zmove P o n r (xs X k) h f), znote P n r (xs X k) h f (xc X)))
def zpl (x i : Nat) : Nat := x + 42 + 11 * i
/-- the cells that going through states writes -/
def zFt (x a : Nat) : Prop := a = x ∨ (x + 5 ≤ a ∧ a ≤ x + 7) ∨ a = x + 12 ∨ (x + 42 ≤ a ∧ a < x + 2253)
def zPool (G : g_G) (x : Nat) : Prop := ∀ i, i ≤ 200 → gR G (x + 9) i = some (zpl x i) ∧ zLS G (zpl x i)
def zSt (P : zPr) (A : Nat → Nat) (G : g_G) (x n : Nat) (X : zX) : Prop := ∀ i, i < xn X → (∃ T, zCL P A G (zpl x i) n (xs X i) T) ∧ gI G (zpl x i) 2 = zhash P n (xs X i) ∧ zgood P n (xs X i)
def zXR (R : Nat → Prop) (P : zPr) (A : Nat → Nat) (E : g_E) (G : g_G) (x : Nat) (o : Nat → Bool) (n : Nat) (X : zX) : Prop :=
  zCt R P A E G x o ∧ zPool G x ∧ n ≤ 8 ∧ gI G x 0 = Int32.ofNat n ∧ gI G x 15 = Int32.ofNat (xn X) ∧ (1 ≤ xn X ∧ xn X ≤ 200) ∧ zSt P A G x n X ∧ zCd G x (xc X)
section Z17
variable {P : zPr} {A : Nat → Nat} {E : g_E} {G : g_G} {l n : Nat} {S : zS} {T : Nat → Int32} {R : Nat → Prop} {x : Nat} {o : Nat → Bool} {X : zX}
theorem zpl_Lx {i : Nat} (hi : i ≤ 200) : zLx x (zpl x i) := by unfold zLx zpl; omega
theorem zany_succ (f : Nat → Bool) (k : Nat) : zany f (k + 1) = (zany f k || f k) := rfl
theorem zany_t {f : Nat → Bool} {i : Nat} : ∀ {k : Nat}, i < k → f i = true → zany f k = true
  | 0, hi, _ => absurd hi (Nat.not_lt_zero i)
  | k + 1, hi, h => by
    rw [zany_succ]
    by_cases c : i = k
    · subst c
      rw [h, Bool.or_true]
    · rw [zany_t (k := k) (by omega) h, Bool.true_or]
theorem zPool.fr {G1 : g_G} {Y : Nat → Prop} (h : zPool G x) (f : zFr Y G G1) (h9 : ¬ Y (x + 9)) (hr : ∀ i, i ≤ 200 → gR G1 (zpl x i) = gR G (zpl x i)) : zPool G1 x := fun i hi => ⟨by rw [f.R h9]; exact (h i hi).1, (h i hi).2.fr f (hr i hi)⟩
theorem zc_try_b50 {k : Nat} {τ : zS} {T : Nat → Int32} (hX : zCt R P A E G x o) (hp : zPool G x) (hk : xn X = k) (hk2 : k ≤ 200) (hr : gI G x 15 = Int32.ofNat k) (hS : zSt P A G x n X) (hC : zCL P A G (zpl x k) n τ T) (hh : gI G (zpl x k) 2 = zhash P n τ) (hw : zwf P n τ) : ∀ d f i, k - i = d → i ≤ k → d < f → zany (fun i => zlike n (xs X i) τ) i = false →
    fX1_tries_b50 E f x (some (zpl x k)) (Int32.ofNat i) G = if zany (fun i => zlike n (xs X i) τ) k = true then some (1, G) else some (zb (decide (k ≠ 200)), gsI G x 15 (Int32.ofNat (k + 1)))
  | d, f, i, hd, hi, hf, ha => by
    obtain ⟨f, rfl⟩ := z_suc hf
    have hXS := hX.1
    have hB := hX.2.2.1
    rw [fX1_tries_b50]
    simp only [↓zx_rI, ↓zx_rT, ↓zx_chk, ↓zx_ce, ↓zx_r5, ↓zx_r6, ↓zx_r7, ↓zx_r8, ↓zx_r9, ↓zx_r12, ↓zx_r16, ↓zx_r17, ↓zx_r19, ↓zx_r20, ↓zx_r22, ↓zx_r23, ↓zx_r24, ↓zx_r28, ↓zx_r29, ↓zx_r30, ↓zx_r32, ↓zx_a4, ↓zx_a5, ↓zx_a6, ↓zx_a7, ↓zx_a8, ↓zx_a9, ↓zx_a12, ↓zx_a13, ↓zx_a25, ↓zx_a26, ↓zx_a27, ↓zx_a28, ↓zx_a29, ↓zx_a30, zXS_I, ↓zx_pI, ↓zx_pZ, ↓zx_pR, ↓zx_s4, ↓zx_s5, ↓zx_s6, ↓zx_s7, ↓zx_s8, ↓zx_s12, ↓zx_s13, ↓zx_s25, ↓zx_s26, ↓zx_s27, ↓zx_s28, ↓zx_s29, ↓zx_s30, hXS, hB, hr]
    cases d with
    | zero =>
      obtain rfl : i = k := by omega
      rw [if_pos (zi_le (by omega) (by omega))]
      simp only [zq_II, and_self, ↓reduceIte, zi_inc, true_or, or_true, ha, Bool.false_eq_true]
      by_cases c : i = 200
      · rw [if_pos (show (200 : Int32) < Int32.ofNat (i + 1) from zi_lt (a := 200) (by omega) (by omega)), decide_eq_false (fun q => q c)]
        rfl
      · rw [if_neg (show ¬ (200 : Int32) < Int32.ofNat (i + 1) from zi_nlt (a := 200) (by omega) (by omega)), decide_eq_true c]
        rfl
    | succ d =>
      obtain ⟨⟨T', hC'⟩, h2, h3⟩ := hS i (by omega)
      have i201 : i < 201 := by omega
      have hL' := hC'.1
      rw [if_neg (zi_nle (by omega) (by omega))]
      simp only [↓zx_rI, ↓zx_rT, ↓zx_chk, ↓zx_ce, ↓zx_r5, ↓zx_r6, ↓zx_r7, ↓zx_r8, ↓zx_r9, ↓zx_r12, ↓zx_r16, ↓zx_r17, ↓zx_r19, ↓zx_r20, ↓zx_r22, ↓zx_r23, ↓zx_r24, ↓zx_r28, ↓zx_r29, ↓zx_r30, ↓zx_r32, ↓zx_a4, ↓zx_a5, ↓zx_a6, ↓zx_a7, ↓zx_a8, ↓zx_a9, ↓zx_a12, ↓zx_a13, ↓zx_a25, ↓zx_a26, ↓zx_a27, ↓zx_a28, ↓zx_a29, ↓zx_a30, zXS_I, hXS, i201, (hp i (by omega)).1, zl_chk hL', zc_like hC' hC hX.2.1.1 h3.1.wf hw h2 hh, Option.bind_some, zb_0, zi_inc, or_true, ↓reduceIte]
      cases c : zlike n (xs X i) τ
      · rw [if_pos rfl]
        exact zc_try_b50 hX hp hk hk2 hr hS hC hh hw d f (i + 1) (by omega) (by omega) (by omega) (by rw [zany_succ, ha, c]; rfl)
      · rw [if_neg (by decide), if_pos (zany_t (i := i) (by omega) c)]
theorem zKr_self : zKr G x (gI G (x + 5), gI G (x + 6), gI G (x + 7)) := fun _ _ => ⟨rfl, rfl, rfl⟩
theorem zCL.hsh {v : Int32} (hC : zCL P A G l n S T) : zCL P A (gsI G l 2 v) l n S T := by
  refine ⟨hC.1, hC.n8, hC.m3, by rw [zq_II, if_neg (by omega), hC.I0], by rw [zq_II, if_neg (by omega), hC.I1], fun h hh => (hC.hd hh).fr fun a a1 a2 => ⟨by funext i; rw [zq_II, if_neg (by omega)], rfl⟩, fun k hk => ?_, fun k hk => by rw [zq_II, if_neg (by omega), hC.th hk]⟩
  obtain ⟨w1, w2, w3, w4, w5, w6⟩ := hC.wd hk
  refine ⟨w1, w2, ?_, ?_, ?_, ?_⟩ <;> rw [zq_II, if_neg (by omega)]
  · exact w3
  · exact w4
  · exact w5
  · exact w6
theorem zc_tries {k h f r : Nat} (hXR : zXR R P A E G x o n X) (hk : k < xn X) (hh : h < n) (hf : f < 8) (hr : r < 1000) (hc : zcan P n r (xs X k) h f = true) :
    ∃ G1, fX1_tries E x (Int32.ofNat k) (Int32.ofNat h) (Int32.ofNat f) (Int32.ofNat r) G = some (zb (ztry P o n r X k h f).1, G1) ∧ zFr (zFt x) G G1 ∧ zPool G1 x ∧ (∀ j, j ≠ 15 → gI G1 x j = gI G x j) ∧ gR G1 x = gR G x ∧
      ((ztry P o n r X k h f).1 = true → zXR R P A E G1 x o n (ztry P o n r X k h f).2) := by
  obtain ⟨hX, hp, hn, h0, h15, hcn, hS, hcd⟩ := hXR
  obtain ⟨⟨T, hC⟩, q2, q3⟩ := hS k hk
  have hXS := hX.1
  have hB := hX.2.2.1
  have hP := hX.2.1.1.1
  obtain ⟨ha, hs, hv⟩ := zcan_iff.1 hc
  have hBl : gB E ≤ zpl x (xn X) := by unfold zpl; omega
  have hBk : gB E ≤ zpl x k := by unfold zpl; omega
  have r201 : xn X < 201 := by omega
  have k201 : k < 201 := by omega
  have hLx := zpl_Lx (x := x) (i := xn X) hcn.2
  -- the copy
  obtain ⟨G1, a1, a2, a3⟩ := zc_copy (E := E) (l := zpl x (xn X)) hC hX.2.1.1 (hp _ hcn.2).2 hBl (by unfold zpl; omega)
  have subL : ∀ a, zIn (zpl x (xn X)) a → x + 5 ≤ a ∧ a < x + 2253 := fun a ha => by unfold zIn zpl at *; omega
  have hX1 := hX.fr a2 subL
  have hXS1 := hX1.1
  -- the note
  have hcd1 : zCd G1 x (xc X) := hcd.fr a2 (fun q => by unfold zIn zpl at *; omega)
  obtain ⟨G2, b1, b2, b3⟩ := zc_notes (r := r) a3 hX1 q3.1 hcd1 hh hf hr hc
  have hX2 := hX1.fr b2 (fun a ha => by omega)
  have hC2 : zCL P A G2 (zpl x (xn X)) n (xs X k) T := a3.fr b2 (fun a ha q => by unfold zIn zpl at *; omega)
  have hXS2 := hX2.1
  -- the move
  obtain ⟨G3, c1, c2, c3, c4⟩ := zc_move (f := f) (r := r) hLx hC2 hX2 q3.1 zKr_self hh hf hr (fun hk2 => q3.m320 hP hn hh hs ha) hc
  have subF : ∀ a, zFx x (zpl x (xn X)) a → x + 5 ≤ a ∧ a < x + 2253 := fun a ha => zFx.sub hLx ha
  have hX3 := hX2.fr c2 subF
  have hXS3 := hX3.1
  -- the number
  have d1 := zc_hash (E := E) c3 hX3.2.1.1 hBl
  generalize hG4 : gsI G3 (zpl x (xn X)) 2 (zhash P n (zmove P o n r (xs X k) h f)) = G4 at d1
  have f34 : zFr (fun a => a = zpl x (xn X)) G3 G4 := by
    subst hG4
    exact zFr.wI rfl
  have hX4 := hX3.fr f34 (fun a ha => by unfold zpl at ha; omega)
  have hLn : ∀ a, a = zpl x (xn X) → zFx x (zpl x (xn X)) a := fun a ha => Or.inl ⟨by omega, by omega⟩
  have f14 : zFr (fun a => zFx x (zpl x (xn X)) a ∨ a = x + 12) G G4 := ((a2.mono fun a ha => Or.inl (Or.inl ha)).trans (b2.mono fun a ha => Or.inr ha)).trans ((c2.mono fun a ha => Or.inl ha).trans (f34.mono fun a ha => Or.inl (hLn a ha)))
  have f14t : zFr (zFt x) G G4 := f14.mono fun a ha => by unfold zFx zIn zFt zpl at *; omega
  obtain ⟨T', hC4⟩ : ∃ T', zCL P A G4 (zpl x (xn X)) n (zmove P o n r (xs X k) h f) T' := by
    subst hG4
    exact ⟨_, c3.hsh⟩
  have hh4 : gI G4 (zpl x (xn X)) 2 = zhash P n (zmove P o n r (xs X k) h f) := by
    subst hG4
    rw [zq_II, if_pos ⟨rfl, rfl⟩]
  have hx4 : ∀ j, gI G4 x j = gI G x j := fun j => congrFun (f14.I (by unfold zFx zIn zpl; omega)) j
  have hp4 : zPool G4 x := fun i hi => by
    refine ⟨by rw [f14.R (by unfold zFx zIn zpl; omega)]; exact (hp i hi).1, ?_⟩
    by_cases c : i = xn X
    · rw [c]
      exact hC4.1
    · exact (hp i hi).2.fr f14 (f14.R (by unfold zFx zIn zpl; omega))
  have hS4 : zSt P A G4 x n X := fun i hi => by
    obtain ⟨⟨T1, w1⟩, w2, w3⟩ := hS i hi
    refine ⟨⟨T1, w1.fr f14 (fun a ha q => by unfold zFx zIn zpl at *; omega)⟩, ?_, w3⟩
    rw [f14.I (by unfold zFx zIn zpl; omega), w2]
  have hcd4 : zCd G4 x (znote P n r (xs X k) h f (xc X)) := (b3.fr c2 (fun q => by unfold zFx zIn zpl at *; omega)).fr f34 (by unfold zpl; omega)
  have hgood := zmove_good (o := o) hP hn q3 hh hc
  have last := zc_try_b50 (E := E) hX4 hp4 rfl hcn.2 (by rw [hx4, h15]) hS4 hC4 hh4 hgood.1.wf (xn X) gFU 0 (by omega) (by omega) (z_F _ (by omega)) rfl
  have start : fX1_tries E x (Int32.ofNat k) (Int32.ofNat h) (Int32.ofNat f) (Int32.ofNat r) G = fX1_tries_b50 E gFU x (some (zpl x (xn X))) 0 G4 := by
    have hLc := a3.1
    have hL3 := c3.1
    have hLp := (hp _ hcn.2).2
    simp only [fX1_tries, ↓zx_rI, ↓zx_rT, ↓zx_chk, ↓zx_ce, ↓zx_r5, ↓zx_r6, ↓zx_r7, ↓zx_r8, ↓zx_r9, ↓zx_r12, ↓zx_r16, ↓zx_r17, ↓zx_r19, ↓zx_r20, ↓zx_r22, ↓zx_r23, ↓zx_r24, ↓zx_r28, ↓zx_r29, ↓zx_r30, ↓zx_r32, ↓zx_a4, ↓zx_a5, ↓zx_a6, ↓zx_a7, ↓zx_a8, ↓zx_a9, ↓zx_a12, ↓zx_a13, ↓zx_a25, ↓zx_a26, ↓zx_a27, ↓zx_a28, ↓zx_a29, ↓zx_a30, zXS_I, hXS, h15, r201, k201, (hp _ hcn.2).1, (hp k (by omega)).1, zl_chk hLp, a1, Option.bind_some, zx_chk hXS1, b1, zx_chk hXS2, c1, zl_chk hL3, d1]
  have last' : fX1_tries_b50 E gFU x (some (zpl x (xn X))) 0 G4 = _ := last
  rw [start, last']
  have f0 : ∀ v, zFr (zFt x) G (gsI G4 x 15 v) := fun v => f14t.wI2 (Or.inl rfl)
  unfold ztry
  by_cases c : zany (fun i => zlike n (xs X i) (zmove P o n r (xs X k) h f)) (xn X) = true
  · rw [if_pos c, if_pos c]
    exact ⟨G4, rfl, f14t, hp4, fun j _ => hx4 j, f14.R (by unfold zFx zIn zpl; omega), fun _ => ⟨hX4, hp4, hn, by rw [hx4, h0], by rw [hx4, h15]; rfl, hcn, hS4, hcd4⟩⟩
  · rw [if_neg c, if_neg c]
    have hx5 : ∀ j, j ≠ 15 → gI (gsI G4 x 15 (Int32.ofNat (xn X + 1))) x j = gI G x j := fun j hj => by
      rw [zq_II, if_neg (fun q => hj q.2), hx4]
    by_cases c2 : xn X = 200
    · rw [if_pos c2, decide_eq_false (fun q => q c2)]
      exact ⟨_, rfl, f0 _, hp4, hx5, f14.R (by unfold zFx zIn zpl; omega), fun q => by cases q⟩
    · rw [if_neg c2, decide_eq_true c2]
      have f5 : zFr (fun a => a = x) G4 (gsI G4 x 15 (Int32.ofNat (xn X + 1))) := zFr.wI rfl
      refine ⟨_, rfl, f0 _, hp4, hx5, f14.R (by unfold zFx zIn zpl; omega), fun _ => ⟨⟨hX4.1, hX4.2.1.fr f5 (fun a ha q => ?_), hX4.2.2.1, hX4.2.2.2.1, fun s hs => ?_⟩, hp4, hn, by rw [hx5 0 (by decide), h0], ?_, ⟨by show 1 ≤ xn X + 1; omega, by show xn X + 1 ≤ 200; omega⟩, fun i hi => ?_, ?_⟩⟩
      · have := hX4.2.2.2.1 a ha
        have q : a = x := q
        omega
      · rw [zq_II, if_neg (by omega)]
        exact hX4.2.2.2.2 s hs
      · rw [zq_II, if_pos ⟨rfl, rfl⟩]
        rfl
      · have hi : i < xn X + 1 := hi
        show (∃ T, zCL P A _ (zpl x i) n (va_up (xs X) (xn X) (zmove P o n r (xs X k) h f) i) T) ∧ _ = zhash P n (va_up (xs X) (xn X) (zmove P o n r (xs X k) h f) i) ∧ zgood P n (va_up (xs X) (xn X) (zmove P o n r (xs X k) h f) i)
        by_cases ci : i = xn X
        · have e : va_up (xs X) (xn X) (zmove P o n r (xs X k) h f) i = zmove P o n r (xs X k) h f := if_pos ci
          rw [e, ci]
          refine ⟨⟨T', hC4.fr f5 (fun a ha q => by unfold zIn zpl at *; omega)⟩, ?_, hgood⟩
          rw [f5.I (by unfold zpl; omega), hh4]
        · have e : va_up (xs X) (xn X) (zmove P o n r (xs X k) h f) i = xs X i := if_neg ci
          obtain ⟨⟨T1, w1⟩, w2, w3⟩ := hS4 i (by omega)
          rw [e]
          refine ⟨⟨T1, w1.fr f5 (fun a ha q => by unfold zIn zpl at *; omega)⟩, ?_, w3⟩
          rw [f5.I (by unfold zpl; omega), w2]
      · exact hcd4.fr f5 (by omega)
end Z17
