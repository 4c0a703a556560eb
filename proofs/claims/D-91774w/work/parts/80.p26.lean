/-! THE PLAIN LAW, 26: plays of the class, to their ends -/
set_option maxRecDepth 100000
section Z26
variable {P : zPr} {A : Nat → Nat} {E : g_E} {G : g_G} {l n : Nat} {S : zS} {T : Nat → Int32} {R : Nat → Prop} {x tx r : Nat} {o : Nat → Bool} {ch : Nat → Option Nat} {Y : zPy} {nr wd : Int32}
theorem zfor_succ (d h : Nat) : zfor P o n r nr wd ch Y (d + 1) h = match zone P o n r nr wd ch Y h with
    | some Z => some Z
    | none => zfor P o n r nr wd ch Y d (h + 1) := rfl
theorem zwhl_succ (F : Nat) (Y : zPy) : zwhl P o n r nr wd ch (F + 1) Y = match zfor P o n r nr wd ch Y n 0 with
    | some Z => zwhl P o n r nr wd ch F Z
    | none => Y := rfl
theorem zpick_can {S : zS} {h : Nat} {nc : Option Nat} {f : Nat} {b : Bool} (hh : h < n) (q : zpick P n r S h nc = some (f, b)) : zcan P n r S h f = true := by
  unfold zpick at q
  by_cases c4 : zK P S h = 4
  · rw [if_pos c4] at q
    cases nc with
    | some c =>
      dsimp only at q
      by_cases cc : zcan P n r S h c = true
      · rw [if_pos cc] at q
        cases q
        exact cc
      · rw [if_neg cc] at q
        cases q
    | none =>
      dsimp only at q
      by_cases cc : zany (fun f => zcan P n r S h f) n = true
      · rw [if_pos cc] at q
        cases q
        obtain ⟨j, h1, h2⟩ := zany_iff.1 cc
        exact (zlow_ok (f := fun f => zcan P n r S h f) (d := n) (i := 0) (Nat.zero_le j) (by omega) h2).2
      · rw [if_neg cc] at q
        cases q
  · rw [if_neg c4] at q
    by_cases cc : zcan P n r S h 0 = true
    · rw [if_pos cc] at q
      have hch : zcan P n r S h h = true := by
        unfold zcan at cc ⊢
        rw [if_neg c4] at cc ⊢
        exact cc
      have e : f = h := by
        split at q
        · split at q
          · cases q; rfl
          · cases q
        · cases q; rfl
      rw [e]
      exact hch
    · rw [if_neg cc] at q
      cases q
theorem zone_phi (hP : zOk P) (hn : n ≤ 8) {h : Nat} {Z : zPy} (hh : h < n) (hg : zgood P n (yS Y)) (q : zone P o n r nr wd ch Y h = some Z) : zphi n (yS Y) + 1 ≤ zphi n (yS Z) := by
  unfold zone at q
  cases e : zpick P n r (yS Y) h (ch (yn Y)) with
  | none =>
    rw [e] at q
    cases q
  | some fb =>
    rw [e] at q
    cases q
    exact (zmove_ok (o := o) hP hn hg.1 hh (zpick_can (b := fb.2) hh (by rw [e]))).2.1
theorem zfor_phi (hP : zOk P) (hn : n ≤ 8) {Z : zPy} (hg : zgood P n (yS Y)) : ∀ d h, h + d ≤ n → zfor P o n r nr wd ch Y d h = some Z → zphi n (yS Y) + 1 ≤ zphi n (yS Z)
  | 0, _, _, q => by cases q
  | d + 1, h, hd, q => by
    rw [zfor_succ] at q
    cases e : zone P o n r nr wd ch Y h with
    | some W =>
      rw [e] at q
      cases q
      exact zone_phi hP hn (by omega) hg e
    | none =>
      rw [e] at q
      exact zfor_phi hP hn hg d (h + 1) (by omega) q
theorem zc_pl_b65 (k54 : Nat → Option Nat → Int32 → Int32 → Int32 → g_G → Option g_G) (hl : l = x + 14 ∨ l = x + 31) (hn : n ≤ 8) (hr : r < 1000) : ∀ d F h (G : g_G), n - h = d → h ≤ n → d + 1 < F → zPR R P A E G x l o n ch Y →
    ∃ G1, fX1_plays_b65 E k54 F x (some l) (Int32.ofNat n) (Int32.ofNat r) 0 (Int32.ofNat h) G = k54 x (some l) (Int32.ofNat n) (Int32.ofNat r) (zb (zfor P o n r (gI G x 2) (gI G x 3) ch Y d h).isSome) G1 ∧ zFr (zFp x l) G G1 ∧ zPR R P A E G1 x l o n ch ((zfor P o n r (gI G x 2) (gI G x 3) ch Y d h).getD Y) ∧ (∀ j, j ≠ 25 → gI G1 x j = gI G x j) ∧ gR G1 x = gR G x
  | d, F, h, G, hd, hh, hF, hR => by
    obtain ⟨F, rfl⟩ := z_suc hF
    have hXS := hR.1.1
    rw [fX1_plays_b65]
    cases d with
    | zero =>
      rw [if_pos (zi_le (by omega) (by omega))]
      exact ⟨G, rfl, zFr.refl _ _, hR, fun _ _ => rfl, rfl⟩
    | succ d =>
      obtain ⟨F, rfl⟩ := z_suc (show d < F by omega)
      obtain ⟨G1, g1, g2, g3, g4, g5⟩ := zc_goesOn (E := E) (r := r) hl hR (show h < n by omega) hr
      rw [if_neg (zi_nle (by omega) (by omega)), if_neg (show ¬ ¬ (0 : Int32) = 0 by decide), zx_chk hXS, g1, Option.bind_some, zfor_succ]
      cases e : zone P o n r (gI G x 2) (gI G x 3) ch Y h with
      | some W =>
        rw [e] at g3
        refine ⟨G1, ?_, g2, g3, g4, g5⟩
        rw [fX1_plays_b65]
        show (if Int32.ofNat n ≤ Int32.ofNat h + 1 then fX1_plays_b92 E k54 x (some l) (Int32.ofNat n) (Int32.ofNat r) 1 G1 else if ¬ (1 : Int32) = 0 then fX1_plays_b92 E k54 x (some l) (Int32.ofNat n) (Int32.ofNat r) 1 G1 else _) = _
        rw [if_pos (show ¬ (1 : Int32) = 0 by decide)]
        split <;> rfl
      | none =>
        rw [e] at g3
        obtain ⟨G2, w1, w2, w3, w4, w5⟩ := zc_pl_b65 k54 hl hn hr d (F + 1) (h + 1) G1 (by omega) (by omega) (by omega) g3
        rw [g4 2 (by decide), g4 3 (by decide)] at w1 w3
        refine ⟨G2, ?_, g2.trans w2, w3, fun j hj => by rw [w4 j hj, g4 j hj], by rw [w5, g5]⟩
        rw [zi_inc]
        exact w1
theorem zc_pl_b54 (hl : l = x + 14 ∨ l = x + 31) (hn : n ≤ 8) (hr : r < 1000) : ∀ F f (Y : zPy) (G : g_G), 320 < F + zphi n (yS Y) → F < f → zPR R P A E G x l o n ch Y →
    ∃ G1, fX1_plays_b54 E f x (some l) (Int32.ofNat n) (Int32.ofNat r) 1 G = some G1 ∧ zFr (zFp x l) G G1 ∧ zPR R P A E G1 x l o n ch (zwhl P o n r (gI G x 2) (gI G x 3) ch F Y) ∧ (∀ j, j ≠ 25 → gI G1 x j = gI G x j) ∧ gR G1 x = gR G x ∧ zfor P o n r (gI G x 2) (gI G x 3) ch (zwhl P o n r (gI G x 2) (gI G x 3) ch F Y) n 0 = none
  | 0, f, Y, G, hF, _, hR => by
    have := zphi_bd hR.1.2.1.1.1 hR.2.2.2.1.1
    omega
  | F + 1, f, Y, G, hF, hf, hR => by
    obtain ⟨f, rfl⟩ := z_suc hf
    have hP := hR.1.2.1.1.1
    rw [fX1_plays_b54, if_neg (by decide), zwhl_succ]
    obtain ⟨G1, g1, g2, g3, g4, g5⟩ := zc_pl_b65 (E := E) (fX1_plays_b54 E f) hl hn hr n gFU 0 G (by omega) (Nat.zero_le _) (z_F _ (by omega)) hR
    have g1' : fX1_plays_b65 E (fX1_plays_b54 E f) gFU x (some l) (Int32.ofNat n) (Int32.ofNat r) 0 0 G = _ := g1
    rw [g1']
    cases e : zfor P o n r (gI G x 2) (gI G x 3) ch Y n 0 with
    | some Z =>
      rw [e] at g3
      have ph := zfor_phi hP hn hR.2.2.2.1 n 0 (by omega) e
      obtain ⟨G2, w1, w2, w3, w4, w5, w6⟩ := zc_pl_b54 hl hn hr F f Z G1 (by omega) (by omega) g3
      rw [g4 2 (by decide), g4 3 (by decide)] at w3 w6
      exact ⟨G2, w1, g2.trans w2, w3, fun j hj => by rw [w4 j hj, g4 j hj], by rw [w5, g5], w6⟩
    | none =>
      rw [e] at g3
      obtain ⟨f, rfl⟩ := z_suc (show F < f by omega)
      refine ⟨G1, ?_, g2, g3, g4, g5, e⟩
      rw [fX1_plays_b54]
      show (if zb false = 0 then some G1 else _) = some G1
      rw [if_pos (show zb false = 0 from rfl)]
theorem zc_pl_b8 {N : Int32} (hXS0 : zXS G x) (hB : gB E ≤ x) : ∀ d f i G1, 8 - i = d → i ≤ 8 → d < f → zFr (zFc x) G G1 → (∀ j, j < i → gI G1 (x + 5) j = 0 ∧ gI G1 (x + 6) j = 0 ∧ gI G1 (x + 7) j = 0) →
    ∃ G2, fX1_plays_b8 E f x (some l) N (Int32.ofNat r) (Int32.ofNat i) G1 = (gchk G2 1 (some x)).bind (fun b48 => (fX1_begins E b48 (some l) N G2).bind fun z48 => fX1_plays_b54 E gFU x (some l) N (Int32.ofNat r) 1 z48) ∧ zFr (zFc x) G G2 ∧ ∀ j, j < 8 → gI G2 (x + 5) j = 0 ∧ gI G2 (x + 6) j = 0 ∧ gI G2 (x + 7) j = 0
  | d, f, i, G1, hd, hi, hf, hF, hz => by
    obtain ⟨f, rfl⟩ := z_suc hf
    have hXS : zXS G1 x := hXS0.fr hF (hF.R (by unfold zFc; omega))
    rw [fX1_plays_b8]
    cases d with
    | zero =>
      obtain rfl : i = 8 := by omega
      rw [if_pos (show (8 : Int32) ≤ Int32.ofNat 8 from Int32.le_refl _)]
      exact ⟨G1, rfl, hF, hz⟩
    | succ d =>
      have i3 : i < 8 := by omega
      rw [if_neg (show ¬ (8 : Int32) ≤ Int32.ofNat i from zi_nle (a := 8) i3 (by omega))]
      simp only [↓zx_rI, ↓zx_rT, ↓zx_chk, ↓zx_ce, ↓zx_r5, ↓zx_r6, ↓zx_r7, ↓zx_r8, ↓zx_r9, ↓zx_r12, ↓zx_r16, ↓zx_r17, ↓zx_r19, ↓zx_r20, ↓zx_r22, ↓zx_r23, ↓zx_r24, ↓zx_r28, ↓zx_r29, ↓zx_r30, ↓zx_r32, ↓zx_a4, ↓zx_a5, ↓zx_a6, ↓zx_a7, ↓zx_a8, ↓zx_a9, ↓zx_a12, ↓zx_a13, ↓zx_a25, ↓zx_a26, ↓zx_a27, ↓zx_a28, ↓zx_a29, ↓zx_a30, zXS_I, ↓zx_pI, ↓zx_pZ, ↓zx_pR, ↓zx_s4, ↓zx_s5, ↓zx_s6, ↓zx_s7, ↓zx_s8, ↓zx_s12, ↓zx_s13, ↓zx_s25, ↓zx_s26, ↓zx_s27, ↓zx_s28, ↓zx_s29, ↓zx_s30, hXS, hB, i3, zi_inc]
      exact zc_pl_b8 hXS0 hB d f (i + 1) _ (by omega) (by omega) (by omega) (((hF.wI2 ⟨by omega, by omega⟩).wI2 ⟨by omega, by omega⟩).wI2 ⟨by omega, by omega⟩) (fun j hj => by
        by_cases c : j = i
        · subst c
          refine ⟨?_, ?_, ?_⟩
          · rw [zq_II, if_neg (by omega), zq_II, if_neg (by omega), zq_II, if_pos ⟨rfl, rfl⟩]
          · rw [zq_II, if_neg (by omega), zq_II, if_pos ⟨rfl, rfl⟩]
          · rw [zq_II, if_pos ⟨rfl, rfl⟩]
        · obtain ⟨w1, w2, w3⟩ := hz j (by omega)
          refine ⟨?_, ?_, ?_⟩
          · rw [zq_II, if_neg (by omega), zq_II, if_neg (by omega), zq_II, if_neg (by omega), w1]
          · rw [zq_II, if_neg (by omega), zq_II, if_neg (by omega), zq_II, if_neg (by omega), w2]
          · rw [zq_II, if_neg (by omega), zq_II, if_neg (by omega), zq_II, if_neg (by omega), w3])
/-- the choices told -/
def zTold (G : g_G) (x n : Nat) (ch : Nat → Option Nat) : Prop := ∃ m, m ≤ 16 ∧ gI G x 26 = Int32.ofNat m ∧ (∀ k, m ≤ k → ch k = none) ∧ ∀ k, k < m → ∃ c, ch k = some c ∧ c < n ∧ gI G (x + 26) k = Int32.ofNat c
theorem zc_plays (hl : l = x + 14 ∨ l = x + 31) (hn : n ≤ 8) (hr : r < 1000) (hX : zCt R P A E G x o) (hT : zTx R P A G x tx) (hL : zLS G l) (hch : zTold G x n ch) :
    ∃ G1, fX1_plays E x (some l) (Int32.ofNat n) (Int32.ofNat r) G = some G1 ∧ zFr (zFp x l) G G1 ∧ zPR R P A E G1 x l o n ch (zplay P o n r (gI G x 2) (gI G x 3) ch) ∧ (∀ j, j ≠ 25 → gI G1 x j = gI G x j) ∧ gR G1 x = gR G x ∧ zfor P o n r (gI G x 2) (gI G x 3) ch (zplay P o n r (gI G x 2) (gI G x 3) ch) n 0 = none := by
  have hx : zLx x l := by unfold zLx; omega
  have hXS := hX.1
  have hB := hX.2.2.1
  have hP := hX.2.1.1.1
  obtain ⟨G2, g1, g2, g3⟩ := zc_pl_b8 (E := E) (l := l) (r := r) (N := Int32.ofNat n) (show zXS (gsI G x 25 0) x from hXS) hB 8 gFU 0 (gsI G x 25 0) (by omega) (by omega) (z_F _ (by omega)) (zFr.refl _ _) (fun j hj => absurd hj (Nat.not_lt_zero j))
  have f0 : zFr (fun a => a = x) G (gsI G x 25 0) := zFr.wI rfl
  have f2 : zFr (fun a => a = x ∨ zFc x a) G G2 := (f0.mono fun a q => Or.inl q).trans (g2.mono fun a q => Or.inr q)
  have nx : ¬ zFc x x := by unfold zFc; omega
  have e2 : ∀ j, gI G2 x j = if j = 25 then 0 else gI G x j := fun j => by
    rw [g2.I nx, zq_II]
    by_cases c : j = 25
    · rw [if_pos ⟨rfl, c⟩, if_pos c]
    · rw [if_neg (fun q => c q.2), if_neg c]
  have eR : gR G2 x = gR G x := by
    rw [g2.R nx]
    rfl
  have hR : ∀ a, R a → ¬ (a = x ∨ zFc x a) := fun a ha q => by
    have := hX.2.2.2.1 a ha
    unfold zFc at q
    omega
  have hX2 : zCt R P A E G2 x o := ⟨hXS.fr f2 eR, hX.2.1.fr f2 hR, hB, hX.2.2.2.1, fun s hs => by rw [f2.I (by unfold zFc; omega)]; exact hX.2.2.2.2 s hs⟩
  have hT2 : zTx R P A G2 x tx := by
    obtain ⟨t1, t2, t3, t4⟩ := hT
    exact ⟨t1, by rw [eR, t2], by rw [f2.cl, t3], by rw [f2.R (hR _ t1), t4]⟩
  obtain ⟨G3, a1, a2, a3⟩ := zc_begins (T := fun _ => 0) hx hn hX2 hT2 (hL.fr f2 (f2.R (by unfold zFc; omega)))
  have hX3 := hX2.fr a2 (fun a ha => by unfold zIn zLx at *; omega)
  have n3 : ¬ zIn l x := by unfold zIn; omega
  have hPR : zPR R P A E G3 x l o n ch (zY0 P o n) := by
    refine ⟨hX3, a3, fun j hj => ?_, zbeg_good hP, Nat.zero_le _, ?_, fun i hi => absurd hi (Nat.not_lt_zero i), ?_⟩
    · rw [a2.I (by unfold zIn; omega), a2.I (by unfold zIn; omega), a2.I (by unfold zIn; omega)]
      exact g3 j hj
    · rw [a2.I n3, e2, if_pos rfl]
      rfl
    · obtain ⟨m, m1, m2, m3, m4⟩ := hch
      refine ⟨m, m1, by rw [a2.I n3, e2, if_neg (by decide)]; exact m2, m3, fun k hk => ?_⟩
      obtain ⟨c, c1, c2, c3⟩ := m4 k hk
      exact ⟨c, c1, c2, by rw [a2.I (by unfold zIn; omega), f2.I (by unfold zFc; omega)]; exact c3⟩
  have e3 : ∀ j, gI G3 x j = gI G2 x j := fun j => by rw [a2.I n3]
  obtain ⟨G4, b1, b2, b3, b4, b5, b6⟩ := zc_pl_b54 (E := E) hl hn hr 330 gFU (zY0 P o n) G3 (by omega) (z_F _ (by omega)) hPR
  rw [e3, e3, e2, e2, if_neg (by decide), if_neg (by decide)] at b3 b6
  have g1' : fX1_plays_b8 E gFU x (some l) (Int32.ofNat n) (Int32.ofNat r) 0 (gsI G x 25 0) = _ := g1
  refine ⟨G4, ?_, ?_, b3, fun j hj => by rw [b4 j hj, e3, e2, if_neg hj], by rw [b5, a2.R n3, eR], b6⟩
  · rw [fX1_plays]
    simp only [↓zx_rI, ↓zx_rT, ↓zx_chk, ↓zx_ce, ↓zx_r5, ↓zx_r6, ↓zx_r7, ↓zx_r8, ↓zx_r9, ↓zx_r12, ↓zx_r16, ↓zx_r17, ↓zx_r19, ↓zx_r20, ↓zx_r22, ↓zx_r23, ↓zx_r24, ↓zx_r28, ↓zx_r29, ↓zx_r30, ↓zx_r32, ↓zx_a4, ↓zx_a5, ↓zx_a6, ↓zx_a7, ↓zx_a8, ↓zx_a9, ↓zx_a12, ↓zx_a13, ↓zx_a25, ↓zx_a26, ↓zx_a27, ↓zx_a28, ↓zx_a29, ↓zx_a30, zXS_I, ↓zx_pI, ↓zx_pZ, ↓zx_pR, ↓zx_s4, ↓zx_s5, ↓zx_s6, ↓zx_s7, ↓zx_s8, ↓zx_s12, ↓zx_s13, ↓zx_s25, ↓zx_s26, ↓zx_s27, ↓zx_s28, ↓zx_s29, ↓zx_s30, hXS, hB]
    rw [g1', zx_chk hX2.1, a1]
    exact b1
  · refine (f2.mono fun a q => ?_).trans ((a2.mono fun a q => Or.inl (Or.inl q)).trans b2)
    rcases q with q | q
    · exact Or.inr (Or.inl q)
    · exact Or.inl (Or.inr q)
end Z26
