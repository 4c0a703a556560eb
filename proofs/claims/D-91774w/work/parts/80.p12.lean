/-! THE PLAIN LAW, 12: moves of the class, with the clocks -/
set_option maxRecDepth 100000
abbrev zKt : Type := (Nat → Int32) × (Nat → Int32) × (Nat → Int32)
def zclk (K : zKt) (h : Nat) (to : Int32) : zKt := if K.1 h < to then (va_up K.1 h to, va_up K.2.1 h (K.2.1 h + (to - K.1 h)), K.2.2) else K
def zinc (K : zKt) (h : Nat) (v : Int32) : zKt := (va_up K.1 h (K.1 h + v), K.2.1, K.2.2)
def zdon (K : zKt) (f h : Nat) : zKt := (K.1, K.2.1, va_up K.2.2 f (if K.2.2 f < K.1 h then K.1 h else K.2.2 f))
def zfar (nr wd : Int32) (h t : Nat) : Int32 := nr + wd * Int32.ofNat (if h ≤ t then t - h else h - t)
def zlat (c : Nat → Int32) : Nat → Int32
  | 0 => 0
  | h + 1 => if zlat c h < c h then c h else zlat c h
def ztgf (v : Int32) : Nat → zKt → zKt
  | 0, K => K
  | h + 1, K => zinc (zclk (ztgf v h K) h v) h 1
def zovK (nr wd : Int32) (h t : Nat) (K : zKt) : zKt :=
  zinc (zinc (zclk (zclk K h (if K.1 h < K.1 t then K.1 t else K.1 h)) t (if K.1 h < K.1 t then K.1 t else K.1 h)) h (1 + zfar nr wd h t)) t (1 + zfar nr wd h t)
def ztkK (S : zS) (h f k : Nat) (K : zKt) (T : Nat → Int32) : zKt := if wbg (sw S k) = true then zdon (zinc (zclk K h (T k)) h 1) f h else zinc (zclk K h (T k)) h 1
def zmvK (P : zPr) (n r : Nat) (S : zS) (h f : Nat) (nr wd : Int32) (K : zKt) (T : Nat → Int32) : zKt × (Nat → Int32) :=
  if zK P S h ≤ 2 then (if zmay P n r S h = true then (zinc K h 1, zins T (zlpos (sw S) (8 * h + zto P n S h) (sm S)) (K.1 h + 1 + zfar nr wd h (zto P n S h))) else (zovK nr wd h (zto P n S h) K, T))
  else if zK P S h = 3 then (ztkK S h (zto P n S h) ((zfnd S (zto P n S h) h (zmk P n S h)).getD 0) K T, zdel T ((zfnd S (zto P n S h) h (zmk P n S h)).getD 0))
  else if zK P S h = 4 then (ztkK S h f ((zfnd S f h (zmk P n S h)).getD 0) K T, zdel T ((zfnd S f h (zmk P n S h)).getD 0))
  else if zK P S h = 5 then (zinc (zclk K h (K.2.2 h)) h 1, T)
  else (ztgf (zlat K.1 n) n K, T)
def zKr (G : g_G) (x : Nat) (K : zKt) : Prop := ∀ h, h < 8 → gI G (x + 5) h = K.1 h ∧ gI G (x + 6) h = K.2.1 h ∧ gI G (x + 7) h = K.2.2 h
def zFx (x l a : Nat) : Prop := zIn l a ∨ (x + 5 ≤ a ∧ a ≤ x + 7)
def zFc (x a : Nat) : Prop := x + 5 ≤ a ∧ a ≤ x + 7
section Z12
variable {P : zPr} {A : Nat → Nat} {E : g_E} {G : g_G} {l n : Nat} {S : zS} {T : Nat → Int32} {R : Nat → Prop} {x : Nat} {o : Nat → Bool} {K : zKt}
theorem zKr.fr {G1 : g_G} {X : Nat → Prop} (h : zKr G x K) (f : zFr X G G1) (hX : ∀ a, X a → x + 8 ≤ a) : zKr G1 x K := fun j hj => by
  have e : ∀ k, k ≤ 7 → gI G1 (x + k) = gI G (x + k) := fun k hk => f.I (fun q => by have := hX _ q; omega)
  rw [e 5 (by omega), e 6 (by omega), e 7 (by omega)]
  exact h j hj
theorem zKr.inc {h : Nat} {v : Int32} (q : zKr G x K) : zKr (gsI G (x + 5) h (K.1 h + v)) x (zinc K h v) := fun j hj => by
  obtain ⟨q1, q2, q3⟩ := q j hj
  refine ⟨?_, by rw [zq_II, if_neg (by omega)]; exact q2, by rw [zq_II, if_neg (by omega)]; exact q3⟩
  rw [zq_II]
  show _ = if j = h then K.1 h + v else K.1 j
  by_cases c : j = h
  · rw [if_pos ⟨rfl, c⟩, if_pos c]
  · rw [if_neg (fun q => c q.2), if_neg c, q1]
theorem zc_clocks {h : Nat} {to : Int32} (hX : zXS G x) (hB : gB E ≤ x) (hh : h < 8) (q : zKr G x K) : ∃ G1, fX1_clocks E x (Int32.ofNat h) to G = some G1 ∧ zFr (zFc x) G G1 ∧ zKr G1 x (zclk K h to) := by
  obtain ⟨q1, q2, q3⟩ := q h hh
  simp only [fX1_clocks, ↓zx_rI, ↓zx_rT, ↓zx_chk, ↓zx_ce, ↓zx_r5, ↓zx_r6, ↓zx_r7, ↓zx_r8, ↓zx_r9, ↓zx_r12, ↓zx_r16, ↓zx_r17, ↓zx_r19, ↓zx_r20, ↓zx_r22, ↓zx_r23, ↓zx_r24, ↓zx_r28, ↓zx_r29, ↓zx_r30, ↓zx_r32, ↓zx_a4, ↓zx_a5, ↓zx_a6, ↓zx_a7, ↓zx_a8, ↓zx_a9, ↓zx_a12, ↓zx_a13, ↓zx_a25, ↓zx_a26, ↓zx_a27, ↓zx_a28, ↓zx_a29, ↓zx_a30, zXS_I, ↓zx_pI, ↓zx_pZ, ↓zx_pR, ↓zx_s4, ↓zx_s5, ↓zx_s6, ↓zx_s7, ↓zx_s8, ↓zx_s12, ↓zx_s13, ↓zx_s25, ↓zx_s26, ↓zx_s27, ↓zx_s28, ↓zx_s29, ↓zx_s30, hX, hB, hh, q1, q2]
  unfold zclk
  by_cases c : K.1 h < to
  · rw [if_pos c, if_pos c]
    refine ⟨_, rfl, (zFr.wI ⟨by omega, by omega⟩).wI2 ⟨by omega, by omega⟩, fun j hj => ?_⟩
    obtain ⟨w1, w2, w3⟩ := q j hj
    refine ⟨?_, ?_, by rw [zq_II, if_neg (by omega), zq_II, if_neg (by omega)]; exact w3⟩
    · rw [zq_II]
      show _ = if j = h then to else K.1 j
      by_cases d : j = h
      · rw [if_pos ⟨rfl, d⟩, if_pos d]
      · rw [if_neg (fun q => d q.2), if_neg d, zq_II, if_neg (by omega), w1]
    · rw [zq_II, if_neg (by omega), zq_II]
      show _ = if j = h then K.2.1 h + (to - K.1 h) else K.2.1 j
      by_cases d : j = h
      · rw [if_pos ⟨rfl, d⟩, if_pos d]
      · rw [if_neg (fun q => d q.2), if_neg d, w2]
  · rw [if_neg c, if_neg c]
    exact ⟨G, rfl, zFr.refl _ _, q⟩
theorem zabs : ∀ h, h < 8 → ∀ t, t < 8 → (if 0 ≤ (Int32.ofNat h - Int32.ofNat t) then (Int32.ofNat h - Int32.ofNat t) else 0 - (Int32.ofNat h - Int32.ofNat t)) = Int32.ofNat (if h ≤ t then t - h else h - t) := by decide
theorem zFx.sub {l a : Nat} (hl : zLx x l) (h : zFx x l a) : x + 5 ≤ a ∧ a < x + 2253 := by
  unfold zFx zIn zLx at *
  omega
/-- a word comes to a hand that is at a wait -/
theorem zc_gets {h len : Nat} {f v v5 : Int32} (hx : zLx x l) (hC : zCL P A G l n S T) (hX : zCt R P A E G x o) (hh : h < n) (ha : hat (sh S h) < zN P) (hs : hst (sh S h) = false) (hk : zK P S h = 3 ∨ zK P S h = 4) (hl : len ≤ 99) (h5 : (if 0 ≤ v5 then v5 else 0 - v5) = Int32.ofNat len) :
    ∃ G1, fX1_gets E x (some l) (Int32.ofNat h) f v v5 G = some G1 ∧ zFr (zIn l) G G1 ∧ zCL P A G1 l n (zgets P o n S h f v len) T := by
  have hL := hC.1
  have hn := hC.n8
  have h8 : h < 8 := by omega
  have hB : gB E ≤ l := by have := hX.2.2.1; have := hx.1; omega
  obtain ⟨p1, p2, p3, p4, p5⟩ := hX.2.1.1.1.2 _ ha
  obtain ⟨q1, q2, q3, -⟩ := (hX.2.1.2 _ ha).2.2.1 hk
  obtain ⟨k1, k2, k3, k4⟩ := hX.2.1.1.2.2 _ ha
  have kk : (16 : Nat) ≤ gcl G (A (hat (sh S h))) ∧ gcl G (A (hat (sh S h))) ≤ 16 := by omega
  have h32 : 4 * h + zvr P (hat (sh S h)) < 32 := by omega
  have sub : ∀ a, zIn l a → x + 5 ≤ a ∧ a < x + 2253 := fun a ha => by unfold zIn zLx at *; omega
  have hlow := hX.2.2.2.1 _ (hX.2.1.2 _ ha).1
  have r1 := hC.vr (v := v) hh p2
  have r2 := r1.fm (v := f) hh
  rw [zup_h, zup_up] at r2
  generalize hG2 : gsI (gsI G (l + 3) (4 * h + zvr P (hat (sh S h))) v) (l + 4) h f = G2 at r2
  have f2 : zFr (zIn l) G G2 := by
    subst hG2
    exact (zFr.wI ⟨by omega, by omega⟩).wI2 ⟨by omega, by omega⟩
  have hX2 := hX.fr f2 sub
  have hXS2 := hX2.1
  have hL2 := r2.1
  have e6 : gI G2 (A (hat (sh S h))) 6 = Int32.ofNat (zms P (hat (sh S h))) := by rw [f2.I (fun q => by have := sub _ q; omega), q3]
  have e2 : gR G2 (A (hat (sh S h))) 2 = zadr P A (znx P (hat (sh S h))) := by rw [f2.R (fun q => by have := sub _ q; omega), k4]
  have kk2 : (16 : Nat) ≤ gcl G2 (A (hat (sh S h))) ∧ gcl G2 (A (hat (sh S h))) ≤ 16 := by rw [f2.cl]; exact kk
  have start : fX1_gets E x (some l) (Int32.ofNat h) f v v5 G = if Int32.ofNat len ≤ Int32.ofNat (zms P (hat (sh S h))) then (fX1_goes E x (some l) (Int32.ofNat h) (zadr P A (znx P (hat (sh S h)))) G2).bind fun z65 => some z65 else (some (gsI G2 (l + 2) h (1 &&& 1))) := by
    simp only [fX1_gets, ↓zl_rI, ↓zl_r3, ↓zl_r4, ↓zl_r5, ↓zl_r6, ↓zl_r7, ↓zl_r8, ↓zl_r9, ↓zl_r10, ↓zl_r11, ↓zl_r12, ↓zl_chk, ↓zl_a1, ↓zl_a2, ↓zl_a3, ↓zl_a4, ↓zl_a5, ↓zl_a6, ↓zl_a7, ↓zl_a8, ↓zl_a9, ↓zl_a10, zLS_I, ↓zl_pI, ↓zl_s1, ↓zl_s2, ↓zl_s3, ↓zl_s4, ↓zl_s5, ↓zl_s6, ↓zl_s7, ↓zl_s8, ↓zl_s9, ↓zl_s10, hL, hB, h8, (hC.hd hh).1, zadr_s ha, zp_cast kk, zp_rI kk, q2, zi_4, h32, hG2, zp_rI kk2, zp_rR kk2, e6, e2, h5, ↓zx_rI, ↓zx_rT, ↓zx_chk, ↓zx_ce, ↓zx_r5, ↓zx_r6, ↓zx_r7, ↓zx_r8, ↓zx_r9, ↓zx_r12, ↓zx_r16, ↓zx_r17, ↓zx_r19, ↓zx_r20, ↓zx_r22, ↓zx_r23, ↓zx_r24, ↓zx_r28, ↓zx_r29, ↓zx_r30, ↓zx_r32, ↓zx_a4, ↓zx_a5, ↓zx_a6, ↓zx_a7, ↓zx_a8, ↓zx_a9, ↓zx_a12, ↓zx_a13, ↓zx_a25, ↓zx_a26, ↓zx_a27, ↓zx_a28, ↓zx_a29, ↓zx_a30, zXS_I, hXS2, hL2]
  rw [start]
  unfold zgets zgetH
  by_cases c : zms P (hat (sh S h)) < len
  · rw [if_neg (zi_nle c (by omega)), if_pos c]
    refine ⟨_, rfl, f2.wI2 ⟨by omega, by omega⟩, ?_⟩
    have := r2.st (b := true) hh
    rw [zup_h, zup_up] at this
    exact this
  · rw [if_pos (zi_le (by omega) (by omega)), if_neg c]
    obtain ⟨G1, t1, t2, t3⟩ := zc_goes hx hh r2 hX2 (by rw [zup_h]; exact hs) p4.2
    refine ⟨G1, by rw [t1]; rfl, f2.trans t2, ?_⟩
    rw [zup_h, zup_up] at t3
    exact t3
theorem zc_goOn {h : Nat} (hx : zLx x l) (hC : zCL P A G l n S T) (hX : zCt R P A E G x o) (hh : h < n) (ha : hat (sh S h) < zN P) (hs : hst (sh S h) = false) :
    ∃ G1, (grR G 11 16 (some (A (hat (sh S h)))) 2).bind (fun r => (gchk G 1 (some x)).bind fun b => (fX1_goes E b (some l) (Int32.ofNat h) r G).bind fun z => some z) = some G1 ∧ zFr (zIn l) G G1 ∧ zCL P A G1 l n (zgoOn P o n S h) T := by
  obtain ⟨k1, k2, k3, k4⟩ := hX.2.1.1.2.2 _ ha
  obtain ⟨p1, p2, p3, p4, p5⟩ := hX.2.1.1.1.2 _ ha
  obtain ⟨G1, t1, t2, t3⟩ := zc_goes hx hh hC hX hs p4.2
  refine ⟨G1, ?_, t2, t3⟩
  rw [zp_rR k1, k4, zx_chk hX.1, t1]
  rfl
theorem zc_b187 {h : Nat} (hx : zLx x l) (hC : zCL P A G l n S T) (hX : zCt R P A E G x o) (hh : h < n) (ha : hat (sh S h) < zN P) (hs : hst (sh S h) = false) (hk : zK P S h ≤ 2) :
    ∃ G1, fX1_sends_b187 E x (some l) (Int32.ofNat h) (some (A (hat (sh S h)))) G = some G1 ∧ zFr (zIn l) G G1 ∧ zCL P A G1 l n (zgoOn P o n S h) T := by
  obtain ⟨k1, k2, k3, k4⟩ := hX.2.1.1.2.2 _ ha
  obtain ⟨q1, -⟩ := (hX.2.1.2 _ ha).2.1 hk
  have kk : (15 : Nat) ≤ gcl G (A (hat (sh S h))) ∧ gcl G (A (hat (sh S h))) ≤ 15 := by omega
  obtain ⟨p1, p2, p3, p4, p5⟩ := hX.2.1.1.1.2 _ ha
  obtain ⟨G1, t1, t2, t3⟩ := zc_goes hx hh hC hX hs p4.2
  refine ⟨G1, ?_, t2, t3⟩
  rw [fX1_sends_b187, zp_rR kk, k4, zx_chk hX.1, t1]
  rfl
theorem zc_sends {h r : Nat} (hx : zLx x l) (hC : zCL P A G l n S T) (hX : zCt R P A E G x o) (hI : zinv P n S) (q : zKr G x K) (hh : h < n) (ha : hat (sh S h) < zN P) (hs : hst (sh S h) = false) (hk : zK P S h ≤ 2) (hr : r < 1000) (hm : sm S < 320) (hv : (zmay P n r S h || zhov P n S h) = true) :
    ∃ G1, fX1_sends E x (some l) (Int32.ofNat h) (some (A (hat (sh S h)))) (Int32.ofNat r) G = some G1 ∧ zFr (zFx x l) G G1 ∧ zCL P A G1 l n (zmove P o n r S h h) (zmvK P n r S h h (gI G x 2) (gI G x 3) K T).2 ∧ zKr G1 x (zmvK P n r S h h (gI G x 2) (gI G x 3) K T).1 := by
  have hL := hC.1
  have hn := hC.n8
  have h8 : h < 8 := by omega
  have hB : gB E ≤ x := hX.2.2.1
  have hBl : gB E ≤ l := by have := hx.1; omega
  have hXS := hX.1
  have hXX := hX.2.1
  obtain ⟨k1, k2, k3, k4⟩ := hXX.1.2.2 _ ha
  obtain ⟨q1, q6, am, at', aw, u1, u2, u3, u4, u5, u6⟩ := (hXX.2 _ ha).2.1 hk
  have kk : (15 : Nat) ≤ gcl G (A (hat (sh S h))) ∧ gcl G (A (hat (sh S h))) ≤ 15 := by omega
  obtain ⟨p1, p2, p3, p4, p5⟩ := hXX.1.1.2 _ ha
  obtain ⟨t1, t2, t3⟩ := hI.to hn hh ha hXX.1.1.1 hs (by omega)
  have tt := zc_to (E := E) hC hXX hh ha hk
  rw [t1] at tt
  have hlow := hX.2.2.2.1 _ (hXX.2 _ ha).1
  have t8 : zto P n S h < 8 := by omega
  have em : ∀ G : g_G, zev P n h (sh S h) (hat (sh S h)) 1 = zmk P n S h := fun _ => rfl
  simp only [fX1_sends, zp_chk q1, tt, Option.bind_some, ↓zx_rI, ↓zx_rT, ↓zx_chk, ↓zx_ce, ↓zx_r5, ↓zx_r6, ↓zx_r7, ↓zx_r8, ↓zx_r9, ↓zx_r12, ↓zx_r16, ↓zx_r17, ↓zx_r19, ↓zx_r20, ↓zx_r22, ↓zx_r23, ↓zx_r24, ↓zx_r28, ↓zx_r29, ↓zx_r30, ↓zx_r32, ↓zx_a4, ↓zx_a5, ↓zx_a6, ↓zx_a7, ↓zx_a8, ↓zx_a9, ↓zx_a12, ↓zx_a13, ↓zx_a25, ↓zx_a26, ↓zx_a27, ↓zx_a28, ↓zx_a29, ↓zx_a30, zXS_I, hXS, zc_mayLie hC hXX hI hh ha hs hk hr, zb_0, zabs h h8 _ t8]
  have ef : gI G x 2 + gI G x 3 * Int32.ofNat (if h ≤ zto P n S h then zto P n S h - h else h - zto P n S h) = zfar (gI G x 2) (gI G x 3) h (zto P n S h) := rfl
  rw [ef]
  generalize hfar : zfar (gI G x 2) (gI G x 3) h (zto P n S h) = far
  unfold zmove zmvK
  rw [if_pos hk, if_pos hk, hfar]
  cases hmay : zmay P n r S h
  · -- handed over
    rw [if_pos rfl, if_neg (by decide), if_neg (by decide)]
    rw [hmay, Bool.false_or] at hv
    have hrec : hat (sh S (zto P n S h)) < zN P ∧ hst (sh S (zto P n S h)) = false ∧ (zK P S (zto P n S h) = 3 ∨ zK P S (zto P n S h) = 4) := by
      unfold zhov at hv
      simp only [Bool.and_eq_true, Bool.or_eq_true, zisAt_iff] at hv
      rcases hv.1.1 with w | w
      · exact ⟨w.1.1, w.1.2.1, Or.inl w.1.2.2⟩
      · exact ⟨w.1, w.2.1, Or.inr w.2.2⟩
    simp only [h8, t8, (q h h8).1, (q _ t8).1, ↓zx_rI, ↓zx_rT, ↓zx_chk, ↓zx_ce, ↓zx_r5, ↓zx_r6, ↓zx_r7, ↓zx_r8, ↓zx_r9, ↓zx_r12, ↓zx_r16, ↓zx_r17, ↓zx_r19, ↓zx_r20, ↓zx_r22, ↓zx_r23, ↓zx_r24, ↓zx_r28, ↓zx_r29, ↓zx_r30, ↓zx_r32, ↓zx_a4, ↓zx_a5, ↓zx_a6, ↓zx_a7, ↓zx_a8, ↓zx_a9, ↓zx_a12, ↓zx_a13, ↓zx_a25, ↓zx_a26, ↓zx_a27, ↓zx_a28, ↓zx_a29, ↓zx_a30, zXS_I, hXS]
    obtain ⟨G1, a1, a2, a3⟩ := zc_clocks (E := E) (to := if K.1 h < K.1 (zto P n S h) then K.1 (zto P n S h) else K.1 h) hXS hB h8 q
    have hXa : zCt R P A E G1 x o := hX.fr a2 (fun a ha => by unfold zFc at ha; omega)
    obtain ⟨G2, b1, b2, b3⟩ := zc_clocks (E := E) (to := if K.1 h < K.1 (zto P n S h) then K.1 (zto P n S h) else K.1 h) hXa.1 hB t8 a3
    have hXb : zCt R P A E G2 x o := hXa.fr b2 (fun a ha => by unfold zFc at ha; omega)
    have hXSb := hXb.1
    rw [a1, Option.bind_some, zx_chk hXa.1, b1, Option.bind_some]
    have e1 := (b3 h h8).1
    have c3 := b3.inc (h := h) (v := 1 + far)
    have e2 := (c3 _ t8).1
    have d3 := c3.inc (h := zto P n S h) (v := 1 + far)
    generalize hK2 : zclk (zclk K h (if K.1 h < K.1 (zto P n S h) then K.1 (zto P n S h) else K.1 h)) (zto P n S h) (if K.1 h < K.1 (zto P n S h) then K.1 (zto P n S h) else K.1 h) = K2 at *
    generalize hG4 : gsI (gsI G2 (x + 5) h (K2.1 h + (1 + far))) (x + 5) (zto P n S h) ((zinc K2 h (1 + far)).1 (zto P n S h) + (1 + far)) = G4 at d3
    have f4 : zFr (zFc x) G G4 := by
      subst hG4
      exact ((a2.trans b2).wI2 ⟨by omega, by omega⟩).wI2 ⟨by omega, by omega⟩
    have hX4 : zCt R P A E G4 x o := hX.fr f4 (fun a ha => by unfold zFc at ha; omega)
    have hC4 : zCL P A G4 l n S T := hC.fr f4 (fun a ha q => by unfold zFc zIn zLx at *; omega)
    have kk4 : (15 : Nat) ≤ gcl G4 (A (hat (sh S h))) ∧ gcl G4 (A (hat (sh S h))) ≤ 15 := by rw [f4.cl]; exact kk
    obtain ⟨-, v6, bm, bt, bw, w1, w2, w3, w4, w5, w6⟩ := (hX4.2.1.2 _ ha).2.1 hk
    have hXS4 := hX4.1
    simp only [↓zx_rI, ↓zx_rT, ↓zx_chk, ↓zx_ce, ↓zx_r5, ↓zx_r6, ↓zx_r7, ↓zx_r8, ↓zx_r9, ↓zx_r12, ↓zx_r16, ↓zx_r17, ↓zx_r19, ↓zx_r20, ↓zx_r22, ↓zx_r23, ↓zx_r24, ↓zx_r28, ↓zx_r29, ↓zx_r30, ↓zx_r32, ↓zx_a4, ↓zx_a5, ↓zx_a6, ↓zx_a7, ↓zx_a8, ↓zx_a9, ↓zx_a12, ↓zx_a13, ↓zx_a25, ↓zx_a26, ↓zx_a27, ↓zx_a28, ↓zx_a29, ↓zx_a30, zXS_I, ↓zx_pI, ↓zx_pZ, ↓zx_pR, ↓zx_s4, ↓zx_s5, ↓zx_s6, ↓zx_s7, ↓zx_s8, ↓zx_s12, ↓zx_s13, ↓zx_s25, ↓zx_s26, ↓zx_s27, ↓zx_s28, ↓zx_s29, ↓zx_s30, hXSb, hB, h8, t8, e1, e2, hG4, zp_rR kk4, w3, zc_val hC4 hh w6 (show 24 ≤ gDP from Nat.le_refl _), zp_rI kk4, v6, hXS4, Option.bind_some]
    obtain ⟨G5, g1, g2, g3⟩ := zc_gets (f := Int32.ofNat h) (v := zwd P n S h) (v5 := Int32.ofNat (zms P (hat (sh S h)))) (len := zms P (hat (sh S h))) hx hC4 hX4 t2 hrec.1 hrec.2.1 hrec.2.2 (by omega) (if_pos (Int32.zero_le_ofNat_of_lt (by omega)))
    have sub : ∀ a, zIn l a → x + 5 ≤ a ∧ a < x + 2253 := fun a ha => by unfold zIn zLx at *; omega
    have eh : sh (zgets P o n S (zto P n S h) (Int32.ofNat h) (zwd P n S h) (zms P (hat (sh S h)))) h = sh S h := zup_o (Ne.symm t3)
    obtain ⟨G6, i1, i2, i3⟩ := zc_b187 hx g3 (hX4.fr g2 sub) hh (by rw [eh]; exact ha) (by rw [eh]; exact hs) (by unfold zK; rw [eh]; exact hk)
    rw [eh] at i1
    refine ⟨G6, ?_, (f4.mono fun a ha => Or.inr ha).trans ((g2.trans i2).mono fun a ha => Or.inl ha), i3, ?_⟩
    · have g1' : fX1_gets E x (some l) (Int32.ofNat (zto P n S h)) (Int32.ofNat h) (zex P (hat (sh S h)) 2 (hvr (sh S h)) (Int32.ofNat h) (Int32.ofNat n) (hfr (sh S h))) (Int32.ofNat (zms P (hat (sh S h)))) G4 = some G5 := g1
      rw [g1', Option.bind_some]
      exact i1
    · have := (d3.fr (X := zIn l) (g2.trans i2) (fun a ha => by unfold zIn zLx at *; omega))
      unfold zovK
      rw [hK2, hfar]
      exact this
  · -- laid down
    rw [if_neg (by decide), if_pos rfl, if_pos rfl]
    have e1 := (q h h8).1
    have c3 := q.inc (h := h) (v := 1)
    have e2 := (c3 h h8).1
    generalize hG1 : gsI G (x + 5) h (K.1 h + 1) = G1 at c3 e2
    have f1 : zFr (zFc x) G G1 := by
      subst hG1
      exact zFr.wI ⟨by omega, by omega⟩
    have hX1 : zCt R P A E G1 x o := hX.fr f1 (fun a ha => by unfold zFc at ha; omega)
    have hC1 : zCL P A G1 l n S T := hC.fr f1 (fun a ha q => by unfold zFc zIn zLx at *; omega)
    have kk1 : (15 : Nat) ≤ gcl G1 (A (hat (sh S h))) ∧ gcl G1 (A (hat (sh S h))) ≤ 15 := by rw [f1.cl]; exact kk
    have kc1 : gcl G1 (A (hat (sh S h))) = 15 := by omega
    obtain ⟨-, v6, bm, bt, bw, w1, w2, w3, w4, w5, w6⟩ := (hX1.2.1.2 _ ha).2.1 hk
    obtain ⟨-, v2, -⟩ := hX1.2.1.1.2.2 _ ha
    have hXS1 := hX1.1
    have hL1 := hC1.1
    have ew : ∀ a b, (if ¬ Int32.ofNat (zkd P (hat (sh S h))) = 2 then a else b) = (if decide (zK P S h = 2) = true then b else a : Option g_G) := fun a b => by
      unfold zK
      rw [show (2 : Int32) = Int32.ofNat 2 from rfl]
      by_cases c : zkd P (hat (sh S h)) = 2
      · rw [if_neg (fun q => q (by rw [c])), if_pos (by simp [c])]
      · rw [if_pos (fun q => c (zi_inj (by omega) (by omega) q)), if_neg (by simp [c])]
    simp only [↓zx_rI, ↓zx_rT, ↓zx_chk, ↓zx_ce, ↓zx_r5, ↓zx_r6, ↓zx_r7, ↓zx_r8, ↓zx_r9, ↓zx_r12, ↓zx_r16, ↓zx_r17, ↓zx_r19, ↓zx_r20, ↓zx_r22, ↓zx_r23, ↓zx_r24, ↓zx_r28, ↓zx_r29, ↓zx_r30, ↓zx_r32, ↓zx_a4, ↓zx_a5, ↓zx_a6, ↓zx_a7, ↓zx_a8, ↓zx_a9, ↓zx_a12, ↓zx_a13, ↓zx_a25, ↓zx_a26, ↓zx_a27, ↓zx_a28, ↓zx_a29, ↓zx_a30, zXS_I, ↓zx_pI, ↓zx_pZ, ↓zx_pR, ↓zx_s4, ↓zx_s5, ↓zx_s6, ↓zx_s7, ↓zx_s8, ↓zx_s12, ↓zx_s13, ↓zx_s25, ↓zx_s26, ↓zx_s27, ↓zx_s28, ↓zx_s29, ↓zx_s30, hXS, hB, h8, e1, hG1, zp_chk kc1, zc_mark hC1 hX1.2.1 hh ha (show zkd P (hat (sh S h)) ≤ 4 by unfold zK at hk; omega), Option.bind_some, zp_rR kk1, w3, zc_val hC1 hh w6 (show 24 ≤ gDP from Nat.le_refl _), zp_rI kk1, v2, v6, ew, fX1_sends_b89, hXS1, e2, ↓zl_rI, ↓zl_r3, ↓zl_r4, ↓zl_r5, ↓zl_r6, ↓zl_r7, ↓zl_r8, ↓zl_r9, ↓zl_r10, ↓zl_r11, ↓zl_r12, ↓zl_chk, ↓zl_a1, ↓zl_a2, ↓zl_a3, ↓zl_a4, ↓zl_a5, ↓zl_a6, ↓zl_a7, ↓zl_a8, ↓zl_a9, ↓zl_a10, zLS_I, hL1]
    obtain ⟨G2, g1, g3, g2⟩ := zc_lie (E := E) (s := h) (t := zto P n S h) (w := (8 * h + zto P n S h, zmk P n S h, zwd P n S h, zms P (hat (sh S h)), decide (zK P S h = 2))) (th := K.1 h + 1 + far) hC1 hBl rfl (show 8 * h + zto P n S h < 64 by omega) p3 hm
    have sub : ∀ a, zIn l a → x + 5 ≤ a ∧ a < x + 2253 := fun a ha => by unfold zIn zLx at *; omega
    obtain ⟨G6, i1, i2, i3⟩ := zc_b187 hx g3 (hX1.fr g2 sub) hh ha hs hk
    refine ⟨G6, ?_, (f1.mono fun a ha => Or.inr ha).trans ((g2.trans i2).mono fun a ha => Or.inl ha), i3, ?_⟩
    · unfold wsl at g1
      have g1' : fX3_lie E l (Int32.ofNat h) (Int32.ofNat (zto P n S h)) (zmk P n S h) (zwd P n S h) (if decide (zK P S h = 2) = true then -Int32.ofNat (zms P (hat (sh S h))) else Int32.ofNat (zms P (hat (sh S h)))) (K.1 h + 1 + far) G1 = some G2 := g1
      have em1 : zev P n h (sh S h) (hat (sh S h)) 1 = zmk P n S h := rfl
      have em2 : zex P (hat (sh S h)) 2 (hvr (sh S h)) (Int32.ofNat h) (Int32.ofNat n) (hfr (sh S h)) = zwd P n S h := rfl
      have em3 : (zinc K h 1).1 h = K.1 h + 1 := if_pos rfl
      rw [em1, em2, em3]
      cases c : decide (zK P S h = 2)
      · rw [c, if_neg (by decide)] at g1'
        rw [if_neg (by decide), g1', Option.bind_some]
        exact i1
      · rw [c, if_pos rfl] at g1'
        rw [if_pos rfl, g1', Option.bind_some]
        exact i1
    · exact c3.fr (X := zIn l) (g2.trans i2) (fun a ha => by unfold zIn zLx at *; omega)
end Z12
