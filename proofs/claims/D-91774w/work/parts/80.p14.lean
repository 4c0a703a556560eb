/-! THE PLAIN LAW, 14: the other moves of the class; a state's beginning -/
set_option maxRecDepth 100000
def ztogN (P : zPr) (o : Nat → Bool) (n : Nat) (S : zS) (k : Nat) (v : Int32) (i : Nat) : zS := (fun h => if h < i then ztogH P o n h (sh S h) k v else sh S h, sm S, sw S)
section Z14
variable {P : zPr} {A : Nat → Nat} {E : g_E} {G : g_G} {l n : Nat} {S : zS} {T : Nat → Int32} {R : Nat → Prop} {x : Nat} {o : Nat → Bool} {K : zKt}
theorem zKr.don {f h : Nat} (q : zKr G x K) : zKr (gsI G (x + 7) f (if K.2.2 f < K.1 h then K.1 h else K.2.2 f)) x (zdon K f h) := fun j hj => by
  obtain ⟨q1, q2, q3⟩ := q j hj
  refine ⟨by rw [zq_II, if_neg (by omega)]; exact q1, by rw [zq_II, if_neg (by omega)]; exact q2, ?_⟩
  rw [zq_II]
  show _ = if j = f then (if K.2.2 f < K.1 h then K.1 h else K.2.2 f) else K.2.2 j
  by_cases c : j = f
  · rw [if_pos ⟨rfl, c⟩, if_pos c]
  · rw [if_neg (fun q => c q.2), if_neg c, q3]
theorem wsl_abs {w : zW} (h : 1 ≤ wln w ∧ wln w ≤ 99) : (if 0 ≤ wsl w then wsl w else 0 - wsl w) = Int32.ofNat (wln w) := by
  have e := wsl_neg h
  cases c : wbg w
  · rw [if_pos (by rw [e, c])]
    unfold wsl
    rw [c, if_neg (by decide)]
  · rw [if_neg (by rw [e, c]; decide)]
    unfold wsl
    rw [c, if_pos rfl, Int32.sub_neg, Int32.zero_add]
theorem zc_takes {h f k : Nat} (hx : zLx x l) (hC : zCL P A G l n S T) (hX : zCt R P A E G x o) (q : zKr G x K) (hh : h < n) (hf : f < 8) (ha : hat (sh S h) < zN P) (hs : hst (sh S h) = false) (hk : zK P S h = 3 ∨ zK P S h = 4) (hw : zfnd S f h (zmk P n S h) = some k) :
    ∃ G1, fX1_takes E x (some l) (Int32.ofNat h) (Int32.ofNat f) G = some G1 ∧ zFr (zFx x l) G G1 ∧ zCL P A G1 l n (ztake P o n S h f) (zdel T k) ∧ zKr G1 x (ztkK S h f k K T) := by
  have hL := hC.1
  have hn := hC.n8
  have h8 : h < 8 := by omega
  have hm := hC.m3
  have hB : gB E ≤ x := hX.2.2.1
  have hBl : gB E ≤ l := by have := hx.1; omega
  have hXS := hX.1
  obtain ⟨q1, -⟩ := (hX.2.1.2 _ ha).2.2.1 hk
  have kk : (16 : Nat) ≤ gcl G (A (hat (sh S h))) ∧ gcl G (A (hat (sh S h))) ≤ 16 := by omega
  have mm := zc_mark (E := E) hC hX.2.1 hh ha (show zkd P (hat (sh S h)) ≤ 4 by unfold zK at hk; omega)
  have em : zev P n h (sh S h) (hat (sh S h)) 1 = zmk P n S h := rfl
  obtain ⟨hk1, hk2, hk3⟩ := zfnd_lt hw
  have k3 : k < 320 := by omega
  have w := hC.wd hk1
  simp only [fX1_takes, ↓zl_rI, ↓zl_r3, ↓zl_r4, ↓zl_r5, ↓zl_r6, ↓zl_r7, ↓zl_r8, ↓zl_r9, ↓zl_r10, ↓zl_r11, ↓zl_r12, ↓zl_chk, ↓zl_a1, ↓zl_a2, ↓zl_a3, ↓zl_a4, ↓zl_a5, ↓zl_a6, ↓zl_a7, ↓zl_a8, ↓zl_a9, ↓zl_a10, zLS_I, hL, h8, (hC.hd hh).1, zadr_s ha, zp_cast kk, zp_chk q1, mm, em, Option.bind_some, zc_first hC (show 8 * f + h < 64 by omega), hw, znum, k3, w.2.2.2.2.1, w.2.2.2.2.2, hC.th hk1, ↓zx_rI, ↓zx_rT, ↓zx_chk, ↓zx_ce, ↓zx_r5, ↓zx_r6, ↓zx_r7, ↓zx_r8, ↓zx_r9, ↓zx_r12, ↓zx_r16, ↓zx_r17, ↓zx_r19, ↓zx_r20, ↓zx_r22, ↓zx_r23, ↓zx_r24, ↓zx_r28, ↓zx_r29, ↓zx_r30, ↓zx_r32, ↓zx_a4, ↓zx_a5, ↓zx_a6, ↓zx_a7, ↓zx_a8, ↓zx_a9, ↓zx_a12, ↓zx_a13, ↓zx_a25, ↓zx_a26, ↓zx_a27, ↓zx_a28, ↓zx_a29, ↓zx_a30, zXS_I, hXS]
  obtain ⟨G1, a1, a2, a3⟩ := zc_clocks (E := E) (to := T k) hXS hB h8 q
  have hXa : zCt R P A E G1 x o := hX.fr a2 (fun a ha => by unfold zFc at ha; omega)
  have hXSa := hXa.1
  have e1 := (a3 h h8).1
  have b3 := a3.inc (h := h) (v := 1)
  generalize hK1 : zinc (zclk K h (T k)) h 1 = K1 at b3
  generalize hG2 : gsI G1 (x + 5) h ((zclk K h (T k)).1 h + 1) = G2 at b3
  have f2 : zFr (zFc x) G G2 := by
    subst hG2
    exact a2.wI2 ⟨by omega, by omega⟩
  have hX2 : zCt R P A E G2 x o := hX.fr f2 (fun a ha => by unfold zFc at ha; omega)
  have hXS2 := hX2.1
  have e7 := (b3 f hf).2.2
  have e5 := (b3 h h8).1
  rw [a1, Option.bind_some]
  simp only [↓zx_rI, ↓zx_rT, ↓zx_chk, ↓zx_ce, ↓zx_r5, ↓zx_r6, ↓zx_r7, ↓zx_r8, ↓zx_r9, ↓zx_r12, ↓zx_r16, ↓zx_r17, ↓zx_r19, ↓zx_r20, ↓zx_r22, ↓zx_r23, ↓zx_r24, ↓zx_r28, ↓zx_r29, ↓zx_r30, ↓zx_r32, ↓zx_a4, ↓zx_a5, ↓zx_a6, ↓zx_a7, ↓zx_a8, ↓zx_a9, ↓zx_a12, ↓zx_a13, ↓zx_a25, ↓zx_a26, ↓zx_a27, ↓zx_a28, ↓zx_a29, ↓zx_a30, zXS_I, ↓zx_pI, ↓zx_pZ, ↓zx_pR, ↓zx_s4, ↓zx_s5, ↓zx_s6, ↓zx_s7, ↓zx_s8, ↓zx_s12, ↓zx_s13, ↓zx_s25, ↓zx_s26, ↓zx_s27, ↓zx_s28, ↓zx_s29, ↓zx_s30, hXSa, hB, h8, e1, hG2, wsl_neg w.2.1, hXS2, hf, e7, e5]
  -- behind the clocks
  have rest : ∀ (G3 : g_G) (K3 : zKt), zFr (zFc x) G G3 → zKr G3 x K3 → ∃ G4, fX1_takes_b88 E x (some l) (Int32.ofNat h) (Int32.ofNat f) (Int32.ofNat k) (wvl (sw S k)) (wsl (sw S k)) G3 = some G4 ∧ zFr (zFx x l) G G4 ∧ zCL P A G4 l n (ztake P o n S h f) (zdel T k) ∧ zKr G4 x K3 := fun G3 K3 f3 q3 => by
    have hX3 : zCt R P A E G3 x o := hX.fr f3 (fun a ha => by unfold zFc at ha; omega)
    have hC3 : zCL P A G3 l n S T := hC.fr f3 (fun a ha q => by unfold zFc zIn zLx at *; omega)
    obtain ⟨G4, g1, g2, g3⟩ := zc_takeOut (E := E) hC3 hBl hk1
    have sub : ∀ a, zIn l a → x + 5 ≤ a ∧ a < x + 2253 := fun a ha => by unfold zIn zLx at *; omega
    have hX4 := hX3.fr g3 sub
    obtain ⟨G5, i1, i2, i3⟩ := zc_gets (f := Int32.ofNat f) (v := wvl (sw S k)) (v5 := wsl (sw S k)) (len := wln (sw S k)) hx g2 hX4 hh ha hs hk w.2.1.2 (wsl_abs w.2.1)
    have hL3 := hC3.1
    refine ⟨G5, ?_, (f3.mono fun a ha => Or.inr ha).trans ((g3.trans i2).mono fun a ha => Or.inl ha), ?_, q3.fr (X := zIn l) (g3.trans i2) (fun a ha => by unfold zIn zLx at *; omega)⟩
    · simp only [fX1_takes_b88, zl_chk hL3, g1, Option.bind_some, zx_chk hX4.1, i1]
    · unfold ztake
      rw [hw]
      exact i3
  unfold ztkK
  cases c : wbg (sw S k)
  · rw [if_pos rfl, if_neg (by decide)]
    rw [hK1]
    exact rest G2 K1 f2 b3
  · rw [if_neg (by decide), if_pos rfl, hK1]
    exact rest _ _ (f2.wI2 ⟨by omega, by omega⟩) b3.don
/-! all together -/
theorem ztogN_succ {k : Nat} {v : Int32} {i : Nat} : zupH (ztogN P o n S k v i) i (ztogH P o n i (sh S i) k v) = ztogN P o n S k v (i + 1) := by
  unfold zupH ztogN
  refine Prod.ext (funext fun j => ?_) rfl
  show (if j = i then ztogH P o n i (sh S i) k v else if j < i then ztogH P o n j (sh S j) k v else sh S j) = if j < i + 1 then ztogH P o n j (sh S j) k v else sh S j
  by_cases c : j = i
  · rw [if_pos c, if_pos (by omega), c]
  · rw [if_neg c]
    by_cases c2 : j < i
    · rw [if_pos c2, if_pos (by omega)]
    · rw [if_neg c2, if_neg (by omega)]
theorem ztogN_h {k : Nat} {v : Int32} {i : Nat} : sh (ztogN P o n S k v i) i = sh S i := if_neg (Nat.lt_irrefl i)
theorem zlat_succ (c : Nat → Int32) (h : Nat) : zlat c (h + 1) = if zlat c h < c h then c h else zlat c h := rfl
theorem zsum_succ (h : Nat) : zsum P n S (h + 1) = zsum P n S h + zev P n h (sh S h) (hat (sh S h)) 0 := rfl
theorem zc_tog_b70 {k : Nat} {v later : Int32} (hx : zLx x l) (hk : k = 6 ∨ k = 7) (hall : ∀ h, h < n → hat (sh S h) < zN P ∧ hst (sh S h) = false ∧ zkd P (hat (sh S h)) = k) : ∀ d F i (G : g_G) (K0 : zKt), n - i = d → i ≤ n → d < F → zCL P A G l n (ztogN P o n S k v i) T → zCt R P A E G x o → zKr G x (ztgf later i K0) →
    ∃ G1, fX1_together_b70 E F x (some l) (Int32.ofNat k) v later (Int32.ofNat i) G = some G1 ∧ zFr (zFx x l) G G1 ∧ zCL P A G1 l n (ztogN P o n S k v n) T ∧ zKr G1 x (ztgf later n K0)
  | d, F, i, G, K0, hd, hi, hF, hC, hX, q => by
    obtain ⟨F, rfl⟩ := z_suc hF
    have hL := hC.1
    have hn := hC.n8
    rw [fX1_together_b70]
    simp only [↓zl_rI, ↓zl_r3, ↓zl_r4, ↓zl_r5, ↓zl_r6, ↓zl_r7, ↓zl_r8, ↓zl_r9, ↓zl_r10, ↓zl_r11, ↓zl_r12, ↓zl_chk, ↓zl_a1, ↓zl_a2, ↓zl_a3, ↓zl_a4, ↓zl_a5, ↓zl_a6, ↓zl_a7, ↓zl_a8, ↓zl_a9, ↓zl_a10, zLS_I, hL, hC.I0]
    cases d with
    | zero =>
      obtain rfl : i = n := by omega
      rw [if_pos (zi_le (by omega) (by omega))]
      exact ⟨G, rfl, zFr.refl _ _, hC, q⟩
    | succ d =>
      have hi2 : i < n := by omega
      have i8 : i < 8 := by omega
      have hB : gB E ≤ x := hX.2.2.1
      have hXS := hX.1
      obtain ⟨ha, hs, hkd⟩ := hall i hi2
      have hd1 := hC.hd hi2
      rw [ztogN_h] at hd1
      have q1 := (hX.2.1.2 _ ha).2.2.2.2.2.1 (by omega)
      have kk : (11 : Nat) ≤ gcl G (A (hat (sh S i))) ∧ gcl G (A (hat (sh S i))) ≤ 11 := by omega
      obtain ⟨G1, a1, a2, a3⟩ := zc_clocks (E := E) (to := later) hXS hB i8 q
      have hXa : zCt R P A E G1 x o := hX.fr a2 (fun a ha => by unfold zFc at ha; omega)
      have hXSa := hXa.1
      have e1 := (a3 i i8).1
      have b3 := a3.inc (h := i) (v := 1)
      generalize hG2 : gsI G1 (x + 5) i ((zclk (ztgf later i K0) i later).1 i + 1) = G2 at b3
      have b3' : zKr G2 x (ztgf later (i + 1) K0) := b3
      have f2 : zFr (zFc x) G G2 := by
        subst hG2
        exact a2.wI2 ⟨by omega, by omega⟩
      have hX2 : zCt R P A E G2 x o := hX.fr f2 (fun a ha => by unfold zFc at ha; omega)
      have hC2 : zCL P A G2 l n (ztogN P o n S k v i) T := hC.fr f2 (fun a ha q => by unfold zFc zIn zLx at *; omega)
      have hL2 := hC2.1
      have kk2 : (11 : Nat) ≤ gcl G2 (A (hat (sh S i))) ∧ gcl G2 (A (hat (sh S i))) ≤ 11 := by rw [f2.cl]; exact kk
      have sub : ∀ a, zIn l a → x + 5 ≤ a ∧ a < x + 2253 := fun a ha => by unfold zIn zLx at *; omega
      obtain ⟨p1, p2, p3, p4, p5⟩ := hX.2.1.1.1.2 _ ha
      have hlow := hX.2.2.2.1 _ (hX.2.1.2 _ ha).1
      rw [if_neg (zi_nle (by omega) (by omega))]
      simp only [↓zl_rI, ↓zl_r3, ↓zl_r4, ↓zl_r5, ↓zl_r6, ↓zl_r7, ↓zl_r8, ↓zl_r9, ↓zl_r10, ↓zl_r11, ↓zl_r12, ↓zl_chk, ↓zl_a1, ↓zl_a2, ↓zl_a3, ↓zl_a4, ↓zl_a5, ↓zl_a6, ↓zl_a7, ↓zl_a8, ↓zl_a9, ↓zl_a10, zLS_I, hL, i8, hd1.1, zadr_s ha, zp_cast kk, ↓zx_rI, ↓zx_rT, ↓zx_chk, ↓zx_ce, ↓zx_r5, ↓zx_r6, ↓zx_r7, ↓zx_r8, ↓zx_r9, ↓zx_r12, ↓zx_r16, ↓zx_r17, ↓zx_r19, ↓zx_r20, ↓zx_r22, ↓zx_r23, ↓zx_r24, ↓zx_r28, ↓zx_r29, ↓zx_r30, ↓zx_r32, ↓zx_a4, ↓zx_a5, ↓zx_a6, ↓zx_a7, ↓zx_a8, ↓zx_a9, ↓zx_a12, ↓zx_a13, ↓zx_a25, ↓zx_a26, ↓zx_a27, ↓zx_a28, ↓zx_a29, ↓zx_a30, zXS_I, hXS, a1, Option.bind_some]
      simp only [↓zx_rI, ↓zx_rT, ↓zx_chk, ↓zx_ce, ↓zx_r5, ↓zx_r6, ↓zx_r7, ↓zx_r8, ↓zx_r9, ↓zx_r12, ↓zx_r16, ↓zx_r17, ↓zx_r19, ↓zx_r20, ↓zx_r22, ↓zx_r23, ↓zx_r24, ↓zx_r28, ↓zx_r29, ↓zx_r30, ↓zx_r32, ↓zx_a4, ↓zx_a5, ↓zx_a6, ↓zx_a7, ↓zx_a8, ↓zx_a9, ↓zx_a12, ↓zx_a13, ↓zx_a25, ↓zx_a26, ↓zx_a27, ↓zx_a28, ↓zx_a29, ↓zx_a30, zXS_I, ↓zx_pI, ↓zx_pZ, ↓zx_pR, ↓zx_s4, ↓zx_s5, ↓zx_s6, ↓zx_s7, ↓zx_s8, ↓zx_s12, ↓zx_s13, ↓zx_s25, ↓zx_s26, ↓zx_s27, ↓zx_s28, ↓zx_s29, ↓zx_s30, hXSa, hB, i8, e1, hG2]
      -- behind the var
      have rest : ∀ (G3 : g_G) (J : zH), zFr (zIn l) G2 G3 → zCL P A G3 l n (zupH (ztogN P o n S k v i) i J) T → hst J = false → zgoes P o n i (znx P (hat (sh S i))) J = ztogH P o n i (sh S i) k v →
          ∃ G4, fX1_together_b132 E (fX1_together_b70 E F) x (some l) (Int32.ofNat k) v later (Int32.ofNat i) (some (A (hat (sh S i)))) G3 = some G4 ∧ zFr (zFx x l) G G4 ∧ zCL P A G4 l n (ztogN P o n S k v n) T ∧ zKr G4 x (ztgf later n K0) := fun G3 J f3 hC3 hsJ eJ => by
        have hX3 := hX2.fr f3 sub
        have kk3 : (11 : Nat) ≤ gcl G3 (A (hat (sh S i))) ∧ gcl G3 (A (hat (sh S i))) ≤ 11 := by rw [f3.cl]; exact kk2
        obtain ⟨k1, k2, k3, k4⟩ := hX3.2.1.1.2.2 _ ha
        obtain ⟨G4, t1, t2, t3⟩ := zc_goes hx hi2 hC3 hX3 (by rw [zup_h]; exact hsJ) p4.2
        rw [zup_h, zup_up, eJ, ztogN_succ] at t3
        obtain ⟨G5, u1, u2, u3, u4⟩ := zc_tog_b70 hx hk hall d F (i + 1) G4 K0 (by omega) (by omega) (by omega) t3 (hX3.fr t2 sub) ((b3'.fr f3 (fun a ha => by unfold zIn zLx at *; omega)).fr t2 (fun a ha => by unfold zIn zLx at *; omega))
        refine ⟨G5, ?_, ((f2.mono fun a ha => Or.inr ha).trans ((f3.trans t2).mono fun a ha => Or.inl ha)).trans u2, u3, u4⟩
        simp only [fX1_together_b132, zp_rR kk3, k4, zx_chk hX3.1, t1, Option.bind_some, zi_inc]
        exact u1
      rcases hk with hk | hk
      · rw [hk] at rest ⊢
        rw [if_pos (show ¬ Int32.ofNat 6 = 7 by decide)]
        refine rest G2 (sh S i) (zFr.refl _ _) ?_ hs ?_
        · have e : zupH (ztogN P o n S 6 v i) i (sh S i) = ztogN P o n S 6 v i := by
            have := zup_self (S := ztogN P o n S 6 v i) (h := i)
            rw [ztogN_h] at this
            exact this
          rw [e, ← hk]
          exact hC2
        · unfold ztogH
          rw [if_neg (by decide)]
      · rw [hk] at rest ⊢
        rw [if_neg (show ¬ ¬ Int32.ofNat 7 = 7 by decide)]
        obtain ⟨q4, -⟩ := (hX2.2.1.2 _ ha).2.2.2.2.2.2.1 (by omega)
        have h32 : 4 * i + zvr P (hat (sh S i)) < 32 := by omega
        have hBl : gB E ≤ l := by have := hx.1; omega
        simp only [↓zl_rI, ↓zl_r3, ↓zl_r4, ↓zl_r5, ↓zl_r6, ↓zl_r7, ↓zl_r8, ↓zl_r9, ↓zl_r10, ↓zl_r11, ↓zl_r12, ↓zl_chk, ↓zl_a1, ↓zl_a2, ↓zl_a3, ↓zl_a4, ↓zl_a5, ↓zl_a6, ↓zl_a7, ↓zl_a8, ↓zl_a9, ↓zl_a10, zLS_I, ↓zl_pI, ↓zl_s1, ↓zl_s2, ↓zl_s3, ↓zl_s4, ↓zl_s5, ↓zl_s6, ↓zl_s7, ↓zl_s8, ↓zl_s9, ↓zl_s10, hL2, hBl, zp_rI kk2, q4, zi_4, h32]
        have hC3 := hC2.vr (k := zvr P (hat (sh S i))) (v := v) hi2 p2
        rw [ztogN_h] at hC3
        refine rest _ (zput P (sh S i) v (hfr (sh S i))) (zFr.wI ⟨by omega, by omega⟩) (by rw [← hk]; exact hC3) hs ?_
        unfold ztogH
        rw [if_pos rfl]
theorem zc_tog_b8 {k : Nat} (hx : zLx x l) (hk : k = 6 ∨ k = 7) (hC : zCL P A G l n S T) (hX : zCt R P A E G x o) (q : zKr G x K) (hall : ∀ h, h < n → hat (sh S h) < zN P ∧ hst (sh S h) = false ∧ zkd P (hat (sh S h)) = k) : ∀ d F i, n - i = d → i ≤ n → d < F →
    fX1_together_b8 E F x (some l) (Int32.ofNat k) (if k = 7 then zsum P n S i else 0) (zlat K.1 i) (Int32.ofNat i) G = fX1_together_b70 E gFU x (some l) (Int32.ofNat k) (if k = 7 then zsum P n S n else 0) (zlat K.1 n) 0 G
  | d, F, i, hd, hi, hF => by
    obtain ⟨F, rfl⟩ := z_suc hF
    have hL := hC.1
    have hn := hC.n8
    rw [fX1_together_b8]
    simp only [↓zl_rI, ↓zl_r3, ↓zl_r4, ↓zl_r5, ↓zl_r6, ↓zl_r7, ↓zl_r8, ↓zl_r9, ↓zl_r10, ↓zl_r11, ↓zl_r12, ↓zl_chk, ↓zl_a1, ↓zl_a2, ↓zl_a3, ↓zl_a4, ↓zl_a5, ↓zl_a6, ↓zl_a7, ↓zl_a8, ↓zl_a9, ↓zl_a10, zLS_I, hL, hC.I0]
    cases d with
    | zero =>
      obtain rfl : i = n := by omega
      rw [if_pos (zi_le (by omega) (by omega))]
    | succ d =>
      have hi2 : i < n := by omega
      have i8 : i < 8 := by omega
      have hXS := hX.1
      obtain ⟨ha, hs, hkd⟩ := hall i hi2
      have q1 := (hX.2.1.2 _ ha).2.2.2.2.2.1 (by omega)
      have kk : (11 : Nat) ≤ gcl G (A (hat (sh S i))) ∧ gcl G (A (hat (sh S i))) ≤ 11 := by omega
      have ih := zc_tog_b8 hx hk hC hX q hall d F (i + 1) (by omega) (by omega) (by omega)
      rw [if_neg (zi_nle (by omega) (by omega))]
      rcases hk with hk | hk
      · rw [hk] at ih ⊢
        rw [if_pos (show ¬ Int32.ofNat 6 = 7 by decide)]
        rw [if_neg (by decide), if_neg (by decide)] at ih ⊢
        simp only [fX1_together_b47, ↓zx_rI, ↓zx_rT, ↓zx_chk, ↓zx_ce, ↓zx_r5, ↓zx_r6, ↓zx_r7, ↓zx_r8, ↓zx_r9, ↓zx_r12, ↓zx_r16, ↓zx_r17, ↓zx_r19, ↓zx_r20, ↓zx_r22, ↓zx_r23, ↓zx_r24, ↓zx_r28, ↓zx_r29, ↓zx_r30, ↓zx_r32, ↓zx_a4, ↓zx_a5, ↓zx_a6, ↓zx_a7, ↓zx_a8, ↓zx_a9, ↓zx_a12, ↓zx_a13, ↓zx_a25, ↓zx_a26, ↓zx_a27, ↓zx_a28, ↓zx_a29, ↓zx_a30, zXS_I, hXS, i8, (q i i8).1, zi_inc]
        exact ih
      · rw [hk] at ih ⊢
        rw [if_neg (show ¬ ¬ Int32.ofNat 7 = 7 by decide)]
        rw [if_pos rfl, if_pos rfl] at ih ⊢
        obtain ⟨-, t, q5, q6⟩ := (hX.2.1.2 _ ha).2.2.2.2.2.2.1 (by omega)
        simp only [↓zl_rI, ↓zl_r3, ↓zl_r4, ↓zl_r5, ↓zl_r6, ↓zl_r7, ↓zl_r8, ↓zl_r9, ↓zl_r10, ↓zl_r11, ↓zl_r12, ↓zl_chk, ↓zl_a1, ↓zl_a2, ↓zl_a3, ↓zl_a4, ↓zl_a5, ↓zl_a6, ↓zl_a7, ↓zl_a8, ↓zl_a9, ↓zl_a10, zLS_I, hL, i8, (hC.hd hi2).1, zadr_s ha, zp_cast kk, zp_rR kk, q5, zc_val hC hi2 q6 (show 24 ≤ gDP from Nat.le_refl _), Option.bind_some, fX1_together_b47, ↓zx_rI, ↓zx_rT, ↓zx_chk, ↓zx_ce, ↓zx_r5, ↓zx_r6, ↓zx_r7, ↓zx_r8, ↓zx_r9, ↓zx_r12, ↓zx_r16, ↓zx_r17, ↓zx_r19, ↓zx_r20, ↓zx_r22, ↓zx_r23, ↓zx_r24, ↓zx_r28, ↓zx_r29, ↓zx_r30, ↓zx_r32, ↓zx_a4, ↓zx_a5, ↓zx_a6, ↓zx_a7, ↓zx_a8, ↓zx_a9, ↓zx_a12, ↓zx_a13, ↓zx_a25, ↓zx_a26, ↓zx_a27, ↓zx_a28, ↓zx_a29, ↓zx_a30, zXS_I, hXS, (q i i8).1, zi_inc]
        exact ih
theorem zc_tog {k : Nat} (hx : zLx x l) (hk : k = 6 ∨ k = 7) (hC : zCL P A G l n S T) (hX : zCt R P A E G x o) (q : zKr G x K) (hall : ∀ h, h < n → hat (sh S h) < zN P ∧ hst (sh S h) = false ∧ zkd P (hat (sh S h)) = k) :
    ∃ G1, fX1_together E x (some l) (Int32.ofNat k) G = some G1 ∧ zFr (zFx x l) G G1 ∧ zCL P A G1 l n (ztog P o n S k) T ∧ zKr G1 x (ztgf (zlat K.1 n) n K) := by
  have hn := hC.n8
  have e0 : fX1_together E x (some l) (Int32.ofNat k) G = fX1_together_b8 E gFU x (some l) (Int32.ofNat k) (if k = 7 then zsum P n S 0 else 0) (zlat K.1 0) (Int32.ofNat 0) G := by
    unfold fX1_together
    rcases hk with hk | hk <;> rw [hk] <;> rfl
  rw [e0, zc_tog_b8 hx hk hC hX q hall n gFU 0 (by omega) (by omega) (z_F _ (by omega))]
  obtain ⟨G1, g1, g2, g3, g4⟩ := zc_tog_b70 (v := if k = 7 then zsum P n S n else 0) (later := zlat K.1 n) hx hk hall n gFU 0 G K (by omega) (by omega) (z_F _ (by omega)) (show zCL P A G l n (ztogN P o n S k _ 0) T from by
    have e : ztogN P o n S k (if k = 7 then zsum P n S n else 0) 0 = S := by
      unfold ztogN
      refine Prod.ext (funext fun j => ?_) rfl
      show (if j < 0 then ztogH P o n j (sh S j) k (if k = 7 then zsum P n S n else 0) else sh S j) = sh S j
      rw [if_neg (Nat.not_lt_zero j)]
    rw [e]
    exact hC) hX q
  refine ⟨G1, g1, g2, ?_, g4⟩
  have e : ztogN P o n S k (if k = 7 then zsum P n S n else 0) n = ztog P o n S k := by
    unfold ztogN ztog
    refine Prod.ext (funext fun j => ?_) rfl
    show (if j < n then _ else _) = if j < n then _ else _
    by_cases c : j < n
    · rw [if_pos c, if_pos c]
      unfold ztogH
      rcases hk with hk | hk
      · rw [hk, if_neg (by decide), if_neg (by decide)]
      · rw [hk, if_pos rfl]
        rfl
    · rw [if_neg c, if_neg c]
  rw [← e]
  exact g3
theorem zcan_iff {r h f : Nat} : zcan P n r S h f = true ↔ hat (sh S h) < zN P ∧ hst (sh S h) = false ∧ (if zK P S h ≤ 2 then zmay P n r S h || zhov P n S h
   else if zK P S h = 3 then (zfnd S (zto P n S h) h (zmk P n S h)).isSome
   else if zK P S h = 4 then !decide (f = h) && (zfnd S f h (zmk P n S h)).isSome
   else if zK P S h = 5 then decide (zbgn (sw S) h (sm S) = 0)
   else decide (h = 0) && zallAt P n S (zK P S h)) = true := by
  unfold zcan
  simp only [Bool.and_eq_true, decide_eq_true_eq, Bool.not_eq_true', and_assoc]
theorem zc_move {h f r : Nat} (hx : zLx x l) (hC : zCL P A G l n S T) (hX : zCt R P A E G x o) (hI : zinv P n S) (q : zKr G x K) (hh : h < n) (hf : f < 8) (hr : r < 1000) (hm : zK P S h ≤ 2 → sm S < 320) (hc : zcan P n r S h f = true) :
    ∃ G1, fX1_move E x (some l) (Int32.ofNat h) (Int32.ofNat f) (Int32.ofNat r) G = some G1 ∧ zFr (zFx x l) G G1 ∧ zCL P A G1 l n (zmove P o n r S h f) (zmvK P n r S h f (gI G x 2) (gI G x 3) K T).2 ∧ zKr G1 x (zmvK P n r S h f (gI G x 2) (gI G x 3) K T).1 := by
  have hL := hC.1
  have hn := hC.n8
  have h8 : h < 8 := by omega
  have hB : gB E ≤ x := hX.2.2.1
  have hBl : gB E ≤ l := by have := hx.1; omega
  have hXS := hX.1
  obtain ⟨ha, hs, hv⟩ := zcan_iff.1 hc
  obtain ⟨k1, k2, k3, k4⟩ := hX.2.1.1.2.2 _ ha
  simp only [fX1_move, ↓zl_rI, ↓zl_r3, ↓zl_r4, ↓zl_r5, ↓zl_r6, ↓zl_r7, ↓zl_r8, ↓zl_r9, ↓zl_r10, ↓zl_r11, ↓zl_r12, ↓zl_chk, ↓zl_a1, ↓zl_a2, ↓zl_a3, ↓zl_a4, ↓zl_a5, ↓zl_a6, ↓zl_a7, ↓zl_a8, ↓zl_a9, ↓zl_a10, zLS_I, hL, h8, (hC.hd hh).1, zadr_s ha, zp_rI k1, k2]
  have hk7 : zkd P (hat (sh S h)) ≤ 7 := by
    rcases hI h hh with w | w
    · have := hX.2.1.1.1.1
      omega
    · exact w.2.1
  have k012 : zK P S h ≤ 2 → ∃ G1, (gcast G 15 15 (some (A (hat (sh S h))))).bind (fun x57 => (gchk G 1 (some x)).bind fun b62 => (fX1_sends E b62 (some l) (Int32.ofNat h) x57 (Int32.ofNat r) G).bind fun z62 => some z62) = some G1 ∧ zFr (zFx x l) G G1 ∧ zCL P A G1 l n (zmove P o n r S h f) (zmvK P n r S h f (gI G x 2) (gI G x 3) K T).2 ∧ zKr G1 x (zmvK P n r S h f (gI G x 2) (gI G x 3) K T).1 := fun hk => by
    obtain ⟨q1, -⟩ := (hX.2.1.2 _ ha).2.1 hk
    have kk : (15 : Nat) ≤ gcl G (A (hat (sh S h))) ∧ gcl G (A (hat (sh S h))) ≤ 15 := by omega
    rw [if_pos hk] at hv
    obtain ⟨G1, g1, g2, g3, g4⟩ := zc_sends hx hC hX hI q hh ha hs hk hr (hm hk) hv
    have em : zmove P o n r S h f = zmove P o n r S h h := by unfold zmove; rw [if_pos hk, if_pos hk]
    have eK : zmvK P n r S h f (gI G x 2) (gI G x 3) K T = zmvK P n r S h h (gI G x 2) (gI G x 3) K T := by unfold zmvK; rw [if_pos hk, if_pos hk]
    rw [em, eK]
    refine ⟨G1, ?_, g2, g3, g4⟩
    rw [zp_cast kk, zx_chk hXS, g1]
    rfl
  have cases7 : zkd P (hat (sh S h)) = 0 ∨ zkd P (hat (sh S h)) = 1 ∨ zkd P (hat (sh S h)) = 2 ∨ zkd P (hat (sh S h)) = 3 ∨ zkd P (hat (sh S h)) = 4 ∨ zkd P (hat (sh S h)) = 5 ∨ zkd P (hat (sh S h)) = 6 ∨ zkd P (hat (sh S h)) = 7 := by omega
  rcases cases7 with e | e | e | e | e | e | e | e
  · rw [e, if_pos (show Int32.ofNat 0 = 0 from rfl)]
    exact k012 (by unfold zK; omega)
  · rw [e, if_neg (show ¬ Int32.ofNat 1 = 0 by decide), if_pos (show Int32.ofNat 1 = 1 from rfl)]
    exact k012 (by unfold zK; omega)
  · rw [e, if_neg (show ¬ Int32.ofNat 2 = 0 by decide), if_neg (show ¬ Int32.ofNat 2 = 1 by decide), if_pos (show Int32.ofNat 2 = 2 from rfl)]
    exact k012 (by unfold zK; omega)
  · rw [e, if_neg (show ¬ Int32.ofNat 3 = 0 by decide), if_neg (show ¬ Int32.ofNat 3 = 1 by decide), if_neg (show ¬ Int32.ofNat 3 = 2 by decide), if_pos (show Int32.ofNat 3 = 3 from rfl)]
    have eK : zK P S h = 3 := e
    obtain ⟨q1, -⟩ := (hX.2.1.2 _ ha).2.2.1 (Or.inl e)
    have kk : (16 : Nat) ≤ gcl G (A (hat (sh S h))) ∧ gcl G (A (hat (sh S h))) ≤ 16 := by omega
    obtain ⟨t1, t2, t3⟩ := hI.to hn hh ha hX.2.1.1.1.1 hs (by omega)
    have tt := zc_of (E := E) hC hX.2.1 hh ha e
    rw [t1] at tt
    rw [if_neg (show ¬ zK P S h ≤ 2 by omega), if_pos eK] at hv
    obtain ⟨k, hk⟩ := Option.isSome_iff_exists.1 hv
    obtain ⟨G1, g1, g2, g3, g4⟩ := zc_takes hx hC hX q hh (show zto P n S h < 8 by omega) ha hs (Or.inl eK) hk
    refine ⟨G1, ?_, g2, ?_, ?_⟩
    · simp only [zp_cast kk, zp_chk q1, tt, Option.bind_some, zx_chk hXS, g1]
    · unfold zmove zmvK
      rw [if_neg (by omega), if_pos eK, if_neg (by omega), if_pos eK, hk]
      exact g3
    · unfold zmvK
      rw [if_neg (by omega), if_pos eK, hk]
      exact g4
  · rw [e, if_neg (show ¬ Int32.ofNat 4 = 0 by decide), if_neg (show ¬ Int32.ofNat 4 = 1 by decide), if_neg (show ¬ Int32.ofNat 4 = 2 by decide), if_neg (show ¬ Int32.ofNat 4 = 3 by decide), if_pos (show Int32.ofNat 4 = 4 from rfl)]
    have eK : zK P S h = 4 := e
    rw [if_neg (show ¬ zK P S h ≤ 2 by omega), if_neg (show ¬ zK P S h = 3 by omega), if_pos eK, Bool.and_eq_true] at hv
    obtain ⟨k, hk⟩ := Option.isSome_iff_exists.1 hv.2
    obtain ⟨G1, g1, g2, g3, g4⟩ := zc_takes hx hC hX q hh hf ha hs (Or.inr eK) hk
    refine ⟨G1, ?_, g2, ?_, ?_⟩
    · simp only [zx_chk hXS, g1, Option.bind_some]
    · unfold zmove zmvK
      rw [if_neg (by omega), if_neg (by omega), if_pos eK, if_neg (by omega), if_neg (by omega), if_pos eK, hk]
      exact g3
    · unfold zmvK
      rw [if_neg (by omega), if_neg (by omega), if_pos eK, hk]
      exact g4
  · rw [e, if_neg (show ¬ Int32.ofNat 5 = 0 by decide), if_neg (show ¬ Int32.ofNat 5 = 1 by decide), if_neg (show ¬ Int32.ofNat 5 = 2 by decide), if_neg (show ¬ Int32.ofNat 5 = 3 by decide), if_neg (show ¬ Int32.ofNat 5 = 4 by decide), if_pos (show Int32.ofNat 5 = 5 from rfl)]
    have eK : zK P S h = 5 := e
    obtain ⟨G1, a1, a2, a3⟩ := zc_clocks (E := E) (to := K.2.2 h) hXS hB h8 q
    have hXa : zCt R P A E G1 x o := hX.fr a2 (fun a ha => by unfold zFc at ha; omega)
    have hXSa := hXa.1
    have e1 := (a3 h h8).1
    have b3 := a3.inc (h := h) (v := 1)
    generalize hG2 : gsI G1 (x + 5) h ((zclk K h (K.2.2 h)).1 h + 1) = G2 at b3
    have f2 : zFr (zFc x) G G2 := by
      subst hG2
      exact a2.wI2 ⟨by omega, by omega⟩
    have hX2 : zCt R P A E G2 x o := hX.fr f2 (fun a ha => by unfold zFc at ha; omega)
    have hC2 : zCL P A G2 l n S T := hC.fr f2 (fun a ha q => by unfold zFc zIn zLx at *; omega)
    obtain ⟨G3, g1, g2, g3⟩ := zc_goOn hx hC2 hX2 hh ha hs
    refine ⟨G3, ?_, (f2.mono fun a ha => Or.inr ha).trans (g2.mono fun a ha => Or.inl ha), ?_, ?_⟩
    · simp only [↓zx_rI, ↓zx_rT, ↓zx_chk, ↓zx_ce, ↓zx_r5, ↓zx_r6, ↓zx_r7, ↓zx_r8, ↓zx_r9, ↓zx_r12, ↓zx_r16, ↓zx_r17, ↓zx_r19, ↓zx_r20, ↓zx_r22, ↓zx_r23, ↓zx_r24, ↓zx_r28, ↓zx_r29, ↓zx_r30, ↓zx_r32, ↓zx_a4, ↓zx_a5, ↓zx_a6, ↓zx_a7, ↓zx_a8, ↓zx_a9, ↓zx_a12, ↓zx_a13, ↓zx_a25, ↓zx_a26, ↓zx_a27, ↓zx_a28, ↓zx_a29, ↓zx_a30, zXS_I, hXS, h8, (q h h8).2.2, a1, Option.bind_some]
      simp only [↓zx_rI, ↓zx_rT, ↓zx_chk, ↓zx_ce, ↓zx_r5, ↓zx_r6, ↓zx_r7, ↓zx_r8, ↓zx_r9, ↓zx_r12, ↓zx_r16, ↓zx_r17, ↓zx_r19, ↓zx_r20, ↓zx_r22, ↓zx_r23, ↓zx_r24, ↓zx_r28, ↓zx_r29, ↓zx_r30, ↓zx_r32, ↓zx_a4, ↓zx_a5, ↓zx_a6, ↓zx_a7, ↓zx_a8, ↓zx_a9, ↓zx_a12, ↓zx_a13, ↓zx_a25, ↓zx_a26, ↓zx_a27, ↓zx_a28, ↓zx_a29, ↓zx_a30, zXS_I, ↓zx_pI, ↓zx_pZ, ↓zx_pR, ↓zx_s4, ↓zx_s5, ↓zx_s6, ↓zx_s7, ↓zx_s8, ↓zx_s12, ↓zx_s13, ↓zx_s25, ↓zx_s26, ↓zx_s27, ↓zx_s28, ↓zx_s29, ↓zx_s30, hXSa, hB, h8, e1, hG2]
      exact g1
    · unfold zmove zmvK
      rw [if_neg (by omega), if_neg (by omega), if_neg (by omega), if_pos eK, if_neg (by omega), if_neg (by omega), if_neg (by omega), if_pos eK]
      exact g3
    · unfold zmvK
      rw [if_neg (by omega), if_neg (by omega), if_neg (by omega), if_pos eK]
      exact b3.fr g2 (fun a ha => by unfold zIn zLx at *; omega)
  all_goals
    have eK : zK P S h = _ := e
    rw [e, if_neg (by decide), if_neg (by decide), if_neg (by decide), if_neg (by decide), if_neg (by decide), if_neg (by decide)]
    rw [if_neg (show ¬ zK P S h ≤ 2 by omega), if_neg (show ¬ zK P S h = 3 by omega), if_neg (show ¬ zK P S h = 4 by omega), if_neg (show ¬ zK P S h = 5 by omega), Bool.and_eq_true] at hv
    have hall := hv.2
    unfold zallAt at hall
    rw [zall_iff] at hall
    obtain ⟨G1, g1, g2, g3, g4⟩ := zc_tog (k := zK P S h) hx (by omega) hC hX q (fun j hj => zisAt_iff.1 (hall j hj))
    refine ⟨G1, ?_, g2, ?_, ?_⟩
    · rw [eK] at g1
      rw [zx_chk hXS, g1]
      rfl
    · unfold zmove zmvK
      rw [if_neg (by omega), if_neg (by omega), if_neg (by omega), if_neg (by omega), if_neg (by omega), if_neg (by omega), if_neg (by omega), if_neg (by omega)]
      exact g3
    · unfold zmvK
      rw [if_neg (by omega), if_neg (by omega), if_neg (by omega), if_neg (by omega)]
      exact g4
end Z14
