/-! THE PLAIN LAW, 24: the class goes through all states: the whole of it -/
set_option maxRecDepth 100000
section Z24
variable {P : zPr} {A : Nat → Nat} {E : g_E} {G : g_G} {l n : Nat} {S : zS} {T : Nat → Int32} {R : Nat → Prop} {x tx r : Nat} {o : Nat → Bool} {X : zX}
theorem zc_gt_b37 {K : Int32 → Int32} (hXS0 : zXS G x) (hB : gB E ≤ x) : ∀ d f i G1, 320 - i = d → i ≤ 320 → d < f → zFr (fun a => a = x + 12) G G1 → (∀ j, j < i → gI G1 (x + 12) j = 0) →
    ∃ G2, fX1_goesThrough_b37 E f x (Int32.ofNat r) (Int32.ofNat i) G1 = fX1_goesThrough_b59 E gFU x (Int32.ofNat r) 0 G2 ∧ zFr (fun a => a = x + 12) G G2 ∧ ∀ j, j < 320 → gI G2 (x + 12) j = 0
  | d, f, i, G1, hd, hi, hf, hF, hz => by
    obtain ⟨f, rfl⟩ := z_suc hf
    have hXS : zXS G1 x := hXS0.fr hF (hF.R (by omega))
    rw [fX1_goesThrough_b37]
    cases d with
    | zero =>
      obtain rfl : i = 320 := by omega
      rw [if_pos (show (320 : Int32) ≤ Int32.ofNat 320 from Int32.le_refl _)]
      exact ⟨G1, rfl, hF, hz⟩
    | succ d =>
      have i3 : i < 320 := by omega
      rw [if_neg (show ¬ (320 : Int32) ≤ Int32.ofNat i from zi_nle (a := 320) i3 (by omega))]
      simp only [↓zx_rI, ↓zx_rT, ↓zx_chk, ↓zx_ce, ↓zx_r5, ↓zx_r6, ↓zx_r7, ↓zx_r8, ↓zx_r9, ↓zx_r12, ↓zx_r16, ↓zx_r17, ↓zx_r19, ↓zx_r20, ↓zx_r22, ↓zx_r23, ↓zx_r24, ↓zx_r28, ↓zx_r29, ↓zx_r30, ↓zx_r32, ↓zx_a4, ↓zx_a5, ↓zx_a6, ↓zx_a7, ↓zx_a8, ↓zx_a9, ↓zx_a12, ↓zx_a13, ↓zx_a25, ↓zx_a26, ↓zx_a27, ↓zx_a28, ↓zx_a29, ↓zx_a30, zXS_I, ↓zx_pI, ↓zx_pZ, ↓zx_pR, ↓zx_s4, ↓zx_s5, ↓zx_s6, ↓zx_s7, ↓zx_s8, ↓zx_s12, ↓zx_s13, ↓zx_s25, ↓zx_s26, ↓zx_s27, ↓zx_s28, ↓zx_s29, ↓zx_s30, hXS, hB, i3, zi_inc]
      exact zc_gt_b37 (K := K) hXS0 hB d f (i + 1) _ (by omega) (by omega) (by omega) (hF.wI2 rfl) (fun j hj => by
        rw [zq_II]
        by_cases c : j = i
        · rw [if_pos ⟨rfl, c⟩]
        · rw [if_neg (fun q => c q.2), hz j (by omega)])
/-- the list of endings, whatever it says -/
def zEl0 (G : g_G) (x pe : Nat) : Prop := ∃ n L, zEL G x n pe L ∧ L.1 ≤ 200 ∧ gln G pe ≤ 400
theorem zc_goesThrough {pe : Nat} (hX : zCt R P A E G x o) (hT : zTx R P A G x tx) (hp : zPool G x) (hn : n ≤ 8) (h0 : gI G x 0 = Int32.ofNat n) (hE : zEl0 G x pe) (hRp : ¬ R pe) (hz : x + 2253 ≤ gsz G) (hRz : ∀ a, R a → a < gsz G) (hr : r < 1000) (hroom : gsl G + 4 * (400 - gln G pe) + 2400 ≤ gMs E) (hcell : gsz G + (400 - gln G pe) + 400 ≤ gMc E) :
    ∃ G1 pe1 L1, fX1_goesThrough E x (Int32.ofNat r) G = some (zb (zexp P o n r).1, G1) ∧ zFn (zFg x pe) G G1 ∧ zKp G G1 x ∧ zLk R G G1 x n pe pe1 L1 175 ∧ ((zexp P o n r).1 = true → zXR R P A E G1 x o n (zexp P o n r).2 ∧ L1 = zen P n r (zexp P o n r).2 (xn (zexp P o n r).2)) := by
  have hXS := hX.1
  have hB := hX.2.2.1
  obtain ⟨n', L', hEL, hL200, hcap⟩ := hE
  have hLx := zpl_Lx (x := x) (i := 0) (by omega)
  have e42 : zpl x 0 = x + 42 := rfl
  obtain ⟨G1, a1, a2, a3⟩ := zc_begins (T := fun _ => 0) hLx hn hX hT (hp 0 (by omega)).2
  have sub : ∀ a, zIn (zpl x 0) a → x + 5 ≤ a ∧ a < x + 2253 := fun a ha => by unfold zIn zpl at *; omega
  have hX1 := hX.fr a2 sub
  have hXS1 := hX1.1
  have hp1 : zPool G1 x := fun i hi => by
    refine ⟨by rw [a2.R (by unfold zIn zpl; omega)]; exact (hp i hi).1, ?_⟩
    by_cases c : i = 0
    · rw [c]
      exact a3.1
    · exact (hp i hi).2.fr a2 (a2.R (by unfold zIn zpl; omega))
  have b1 := zc_hash (E := E) a3 hX1.2.1.1 (show gB E ≤ zpl x 0 by unfold zpl; omega)
  have hX2 : zCt R P A E (gsI G1 (zpl x 0) 2 (zhash P n (zbeg P o n))) x o := hX1.fr (X := fun a => a = zpl x 0) (zFr.wI rfl) (fun a ha => by unfold zpl at ha; omega)
  generalize hG2 : gsI G1 (zpl x 0) 2 (zhash P n (zbeg P o n)) = G2 at b1 hX2
  have f2 : zFr (fun a => zIn (zpl x 0) a ∨ a = x ∨ a = x + 12) G (gsI G2 x 15 1) := by
    subst hG2
    exact ((a2.mono fun a q => Or.inl q).wI2 (Or.inl ⟨by omega, by omega⟩)).wI2 (Or.inr (Or.inl rfl))
  have hXS2 := hX2.1
  have hEL3 : zEL (gsI G2 x 15 1) x n' pe L' := hEL.fn f2.fn hz (fun a q w => by unfold zIn zpl at q; omega) (by unfold zIn zpl; omega) (by unfold zIn zpl; omega)
  have hBpe : gB E ≤ pe := by rcases hEL.2.2.2.2 with e | e <;> omega
  obtain ⟨G4, d1, d2, d3⟩ := zc_clear (E := E) hEL3.1 (by omega) hBpe
  have hXS4 : zXS G4 x := by
    refine (show zXS (gsI G2 x 15 1) x from hXS2).fr d3 (d3.R ?_)
    have := hEL.2.2.2.2
    omega
  obtain ⟨G5, g1, g2, g3⟩ := zc_gt_b37 (K := id) (r := r) (E := E) hXS4 hB 320 gFU 0 G4 (by omega) (by omega) (z_F _ (by omega)) (zFr.refl _ _) (fun j hj => absurd hj (Nat.not_lt_zero j))
  have g1' : fX1_goesThrough_b37 E gFU x (Int32.ofNat r) 0 G4 = _ := g1
  have start : fX1_goesThrough E x (Int32.ofNat r) G = fX1_goesThrough_b59 E gFU x (Int32.ofNat r) 0 G5 := by
    have hp0 : gR G (x + 9) 0 = some (zpl x 0) := (hp 0 (by omega)).1
    have hp0' : gR G1 (x + 9) 0 = some (zpl x 0) := (hp1 0 (by omega)).1
    have hl1 := a3.1
    have q9 : ∀ (G : g_G) (α : Type) (K : Option Nat → Option α), zXS G x → (gaR G 121 (some (x + 9)) 0).bind K = K (gR G (x + 9) 0) := fun G α K h => zx_a9 (i := 0) h (by omega)
    rw [fX1_goesThrough]
    simp only [↓zx_rI, ↓zx_rT, ↓zx_chk, ↓zx_ce, ↓zx_r5, ↓zx_r6, ↓zx_r7, ↓zx_r8, ↓zx_r9, ↓zx_r12, ↓zx_r16, ↓zx_r17, ↓zx_r19, ↓zx_r20, ↓zx_r22, ↓zx_r23, ↓zx_r24, ↓zx_r28, ↓zx_r29, ↓zx_r30, ↓zx_r32, ↓zx_a4, ↓zx_a5, ↓zx_a6, ↓zx_a7, ↓zx_a8, ↓zx_a9, ↓zx_a12, ↓zx_a13, ↓zx_a25, ↓zx_a26, ↓zx_a27, ↓zx_a28, ↓zx_a29, ↓zx_a30, zXS_I, hXS, q9 G _ _ hXS, hp0, h0, a1, Option.bind_some, hXS1, q9 G1 _ _ hXS1, hp0', zl_chk hl1, b1]
    simp only [↓zx_rI, ↓zx_rT, ↓zx_chk, ↓zx_ce, ↓zx_r5, ↓zx_r6, ↓zx_r7, ↓zx_r8, ↓zx_r9, ↓zx_r12, ↓zx_r16, ↓zx_r17, ↓zx_r19, ↓zx_r20, ↓zx_r22, ↓zx_r23, ↓zx_r24, ↓zx_r28, ↓zx_r29, ↓zx_r30, ↓zx_r32, ↓zx_a4, ↓zx_a5, ↓zx_a6, ↓zx_a7, ↓zx_a8, ↓zx_a9, ↓zx_a12, ↓zx_a13, ↓zx_a25, ↓zx_a26, ↓zx_a27, ↓zx_a28, ↓zx_a29, ↓zx_a30, zXS_I, ↓zx_pI, ↓zx_pZ, ↓zx_pR, ↓zx_s4, ↓zx_s5, ↓zx_s6, ↓zx_s7, ↓zx_s8, ↓zx_s12, ↓zx_s13, ↓zx_s25, ↓zx_s26, ↓zx_s27, ↓zx_s28, ↓zx_s29, ↓zx_s30, hXS2, hB, d1, Option.bind_some]
    exact g1'
  rw [start]
  have fall : zFr (zFg x pe) G G5 := (f2.mono fun a q => by unfold zIn zpl at q; unfold zFg zFt; omega).trans ((d3.mono fun a q => by unfold zFg zFt; omega).trans (g2.mono fun a q => by unfold zFg zFt; omega))
  have fall2 : zFr (fun a => (zIn (zpl x 0) a ∨ a = x ∨ a = x + 12) ∨ (a = x + 10 ∨ a = pe)) G G5 := (f2.mono fun a q => Or.inl q).trans ((d3.mono fun a q => Or.inr q).trans (g2.mono fun a q => Or.inl (Or.inr (Or.inr q))))
  have hne : pe ≠ x := by have := hEL.2.2.2.2; omega
  have hpr := hEL.2.2.2.2
  have hx5 : ∀ j, gI G5 x j = if j = 15 then 1 else gI G x j := fun j => by
    rw [g2.I (by omega), d3.I (by omega), zq_II]
    by_cases c : j = 15
    · rw [if_pos ⟨rfl, c⟩, if_pos c]
    · rw [if_neg (fun q => c q.2), if_neg c]
      subst hG2
      rw [zq_II, if_neg (by unfold zpl; omega), a2.I (by unfold zIn zpl; omega)]
  have hxR : gR G5 x = gR G x := by
    rw [g2.R (by omega), d3.R (by omega)]
    subst hG2
    show gR G1 x = _
    rw [a2.R (by unfold zIn zpl; omega)]
  have hX5 : zCt R P A E G5 x o := by
    have hx4 : ¬ (zFg x pe (x + 4)) := by unfold zFg zFt; omega
    have hRn : ∀ a, R a → ¬ (zFg x pe a) := fun a ha q => by
      have h1 := hX.2.2.2.1 a ha
      have h2 : a ≠ pe := fun w => hRp (w ▸ ha)
      unfold zFg zFt at q
      omega
    refine ⟨hXS.fr fall hxR, hX.2.1.fr fall hRn, hB, hX.2.2.2.1, fun s hs => ?_⟩
    rw [fall.I hx4]
    exact hX.2.2.2.2 s hs
  have hp5 : zPool G5 x := fun i hi => by
    refine ⟨by rw [fall2.R (by unfold zIn zpl; omega)]; exact (hp i hi).1, ?_⟩
    by_cases c : i = 0
    · subst c
      have hl2 : zLS G2 (zpl x 0) := by subst hG2; exact a3.1
      refine ((show zLS (gsI G2 x 15 1) (zpl x 0) from hl2).fr d3 (d3.R ?_)).fr g2 (g2.R ?_)
      · unfold zpl
        omega
      · unfold zpl
        omega
    · exact (hp i hi).2.fr fall2 (fall2.R (by unfold zIn zpl; omega))
  have hXR : zXR R P A E G5 x o n (zX0 P o n) := by
    refine ⟨hX5, hp5, hn, by rw [hx5, if_neg (by decide), h0], by rw [hx5, if_pos rfl]; rfl, ⟨Nat.le_refl _, Nat.le_of_ble_eq_true rfl⟩, fun i hi => ?_, fun s h hs hh => g3 _ (by omega)⟩
    have : i = 0 := by
      have hi : i < 1 := hi
      omega
    subst this
    have d0 : ∀ a, zIn (zpl x 0) a → ¬ (a = x + 12) := fun a ha => by unfold zIn zpl at ha; omega
    have d1 : ∀ a, zIn (zpl x 0) a → ¬ (a = x + 10 ∨ a = pe) := fun a ha => by unfold zIn zpl at ha; omega
    have d2 : ∀ a, zIn (zpl x 0) a → ¬ (a = x) := fun a ha => by unfold zIn zpl at ha; omega
    refine ⟨⟨fun _ => 0, ?_⟩, ?_, zbeg_good hX.2.1.1.1⟩
    · refine (zCL.fr (X := fun a => a = x + 10 ∨ a = pe) (zCL.fr (G := G2) (X := fun a => a = x) ?_ (zFr.wI rfl) d2) d3 d1).fr g2 d0
      subst hG2
      exact a3.hsh
    · rw [g2.I (by unfold zpl; omega), d3.I (by unfold zpl; omega), zq_II, if_neg (by unfold zpl; omega)]
      subst hG2
      rw [zq_II, if_pos ⟨rfl, rfl⟩]
      rfl
  have hEL5 : zEL G5 x n pe (0, fun _ => (0, fun _ => 0, 0, 0)) := by
    refine ⟨?_, fun i hi => absurd hi (Nat.not_lt_zero i), by rw [fall.ln]; exact hEL.2.2.1, by rw [fall.1]; exact hEL.2.2.2.1, hpr⟩
    obtain ⟨w1, w2, w3, w4, w5, w6⟩ := d2
    exact ⟨by rw [g2.cl]; exact w1, by rw [g2.cl]; exact w2, by rw [g2.R (by omega)]; exact w3, by rw [g2.I (by omega)]; exact w4, by rw [g2.ln]; exact w5, by rw [g2.ln]; exact w6⟩
  have := zc_gt_b59 (R := R) (P := P) (A := A) (E := E) (x := x) (o := o) (G0 := G) (pe0 := pe) hn hr hz hRz hroom hcell 200 gFU 201 0 (zX0 P o n) G5 pe (by omega) (Nat.zero_le _) (by omega) (z_F _ (by omega)) hXR (by rw [fall.1]; exact Nat.le_refl _) fall.fn ⟨fun j hj => by rw [hx5, if_neg hj], hxR, hp5⟩ ⟨hEL5, hRp, Or.inl rfl, by rw [fall.ln]; exact Nat.le_refl _, by rw [fall.ln]; exact hcap, by rw [fall.ln, fall.2.1]; omega, by rw [fall.ln, fall.1]; omega⟩ zfew.zero
  exact this
theorem zc_hasLocked {pe : Nat} {L : zL} (hXS : zXS G x) (hL : zEL G x n pe L) (hl : L.1 < 1000) : fX1_hasLocked E x G = some (zb (decide (0 < L.1) && decide (ekd (L.2 (L.1 - 1)) = 2)), G) := by
  have kk : (17 : Nat) ≤ gcl G (x + 10) ∧ gcl G (x + 10) ≤ 17 := by have := hL.1.1; omega
  have hI := hL.1.2.2.2.1
  simp only [fX1_hasLocked, ↓zx_rI, ↓zx_rT, ↓zx_chk, ↓zx_ce, ↓zx_r5, ↓zx_r6, ↓zx_r7, ↓zx_r8, ↓zx_r9, ↓zx_r12, ↓zx_r16, ↓zx_r17, ↓zx_r19, ↓zx_r20, ↓zx_r22, ↓zx_r23, ↓zx_r24, ↓zx_r28, ↓zx_r29, ↓zx_r30, ↓zx_r32, ↓zx_a4, ↓zx_a5, ↓zx_a6, ↓zx_a7, ↓zx_a8, ↓zx_a9, ↓zx_a12, ↓zx_a13, ↓zx_a25, ↓zx_a26, ↓zx_a27, ↓zx_a28, ↓zx_a29, ↓zx_a30, zXS_I, hXS, fJ2_isEmpty, zp_rI kk, hI, true_or, or_true, ↓reduceIte]
  by_cases c : L.1 = 0
  · rw [c]
    rfl
  · obtain ⟨b, b1, b2⟩ := hL.2.1 (L.1 - 1) (by omega)
    have kb : (7 : Nat) ≤ gcl G b ∧ gcl G b ≤ 7 := by have := b2.1; omega
    have e1 : Int32.ofNat L.1 - 1 = Int32.ofNat (L.1 - 1) := (Int32.ofNat_sub L.1 1 (by omega)).symm
    have hc : ¬ Int32.ofNat L.1 = 0 := fun q => c (zi_inj (b := 0) (by omega) (by omega) q)
    rw [if_pos hc]
    simp only [Option.bind_some, not_true_eq_false, ↓reduceIte, zc_size hL.1, e1, zc_get hL.1 (show L.1 - 1 < L.1 by omega), b1, zp_cast kb, zp_rI kb, b2.2.1, ↓zx_rI, ↓zx_rT, ↓zx_chk, ↓zx_ce, ↓zx_r5, ↓zx_r6, ↓zx_r7, ↓zx_r8, ↓zx_r9, ↓zx_r12, ↓zx_r16, ↓zx_r17, ↓zx_r19, ↓zx_r20, ↓zx_r22, ↓zx_r23, ↓zx_r24, ↓zx_r28, ↓zx_r29, ↓zx_r30, ↓zx_r32, ↓zx_a4, ↓zx_a5, ↓zx_a6, ↓zx_a7, ↓zx_a8, ↓zx_a9, ↓zx_a12, ↓zx_a13, ↓zx_a25, ↓zx_a26, ↓zx_a27, ↓zx_a28, ↓zx_a29, ↓zx_a30, zXS_I, hXS]
    rw [decide_eq_true (show 0 < L.1 by omega), Bool.true_and]
    by_cases c2 : ekd (L.2 (L.1 - 1)) = 2
    · rw [if_neg (fun q => q c2), decide_eq_true c2]
      rfl
    · rw [if_pos c2, decide_eq_false c2]
      rfl
end Z24
