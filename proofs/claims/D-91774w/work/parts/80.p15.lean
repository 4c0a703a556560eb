/-! THE PLAIN LAW, 15: a Life of the class begins -/
set_option maxRecDepth 100000
def zfs (P : zPr) : Nat := if zN P = 0 then 40 else 0
def zTx (R : Nat → Prop) (P : zPr) (A : Nat → Nat) (G : g_G) (x tx : Nat) : Prop := R tx ∧ gR G x 4 = some tx ∧ gcl G tx = 2 ∧ gR G tx 1 = zadr P A (zfs P)
def zbgI (P : zPr) (o : Nat → Bool) (n i : Nat) : zS := (fun h => if h < i then zgoes P o n h (zfs P) zH0 else zH0, 0, fun _ => (0, 0, 0, 0, false))
section Z15
variable {P : zPr} {A : Nat → Nat} {E : g_E} {G : g_G} {l n : Nat} {S : zS} {T : Nat → Int32} {R : Nat → Prop} {x tx : Nat} {o : Nat → Bool}
theorem zTx.fr {G1 : g_G} {X : Nat → Prop} (h : zTx R P A G x tx) (f : zFr X G G1) (hR : ∀ a, R a → ¬ X a) (hx : ¬ X x) : zTx R P A G1 x tx := by
  obtain ⟨h1, h2, h3, h4⟩ := h
  exact ⟨h1, by rw [f.R hx, h2], by rw [f.cl, h3], by rw [f.R (hR _ h1), h4]⟩
theorem zc_beg_b41 {h : Nat} {N : Int32} (hL : zLS G l) (hB : gB E ≤ l) (hh : h < 8) (K : Nat → Option Nat → Int32 → Int32 → g_G → Option g_G) : ∀ d f i G2, 4 - i = d → i ≤ 4 → d < f → zFr (fun a => a = l + 3) G G2 → (∀ q, gI G2 (l + 3) q = if 4 * h ≤ q ∧ q < 4 * h + i then 0 else gI G (l + 3) q) →
    ∃ G3, fX1_begins_b41 E K f x (some l) N (Int32.ofNat h) (Int32.ofNat i) G2 = K x (some l) N (Int32.ofNat (h + 1)) G3 ∧ zFr (fun a => a = l + 3) G G3 ∧ ∀ q, gI G3 (l + 3) q = if 4 * h ≤ q ∧ q < 4 * h + 4 then 0 else gI G (l + 3) q
  | d, f, i, G2, hd, hi, hf, hF, hW => by
    obtain ⟨f, rfl⟩ := z_suc hf
    have hL2 : zLS G2 l := hL.fr hF (hF.R (by omega))
    rw [fX1_begins_b41]
    cases d with
    | zero =>
      obtain rfl : i = 4 := by omega
      exact ⟨G2, by rw [if_pos (show (4 : Int32) ≤ Int32.ofNat 4 from Int32.le_refl _), zi_inc], hF, hW⟩
    | succ d =>
      have i3 : 4 * h + i < 32 := by omega
      rw [if_neg (show ¬ (4 : Int32) ≤ Int32.ofNat i from zi_nle (a := 4) (by omega) (by omega))]
      simp only [↓zl_rI, ↓zl_r3, ↓zl_r4, ↓zl_r5, ↓zl_r6, ↓zl_r7, ↓zl_r8, ↓zl_r9, ↓zl_r10, ↓zl_r11, ↓zl_r12, ↓zl_chk, ↓zl_a1, ↓zl_a2, ↓zl_a3, ↓zl_a4, ↓zl_a5, ↓zl_a6, ↓zl_a7, ↓zl_a8, ↓zl_a9, ↓zl_a10, zLS_I, ↓zl_pI, ↓zl_s1, ↓zl_s2, ↓zl_s3, ↓zl_s4, ↓zl_s5, ↓zl_s6, ↓zl_s7, ↓zl_s8, ↓zl_s9, ↓zl_s10, hL2, hB, i3, zi_4, zi_inc]
      refine zc_beg_b41 hL hB hh K d f (i + 1) _ (by omega) (by omega) (by omega) (hF.wI2 rfl) fun q => ?_
      rw [zq_II]
      by_cases c : q = 4 * h + i
      · rw [if_pos ⟨rfl, c⟩, if_pos (by omega)]
      · rw [if_neg (fun x => c x.2), hW]
        by_cases c2 : 4 * h ≤ q ∧ q < 4 * h + i
        · rw [if_pos c2, if_pos (by omega)]
        · rw [if_neg c2, if_neg (by omega)]
theorem zc_beg_b12 (hn : n ≤ 8) (hB : gB E ≤ l) : ∀ d f i G1, n - i = d → i ≤ n → d < f → zFr (zIn l) G G1 → zLS G1 l → gI G1 l 0 = Int32.ofNat n → gI G1 l 1 = Int32.ofNat 0 → (∀ h, h < i → zHb (fun _ => False) P A G1 l h zH0) →
    ∃ G2, fX1_begins_b12 E f x (some l) (Int32.ofNat n) (Int32.ofNat i) G1 = fX1_begins_b73 E gFU x (some l) (Int32.ofNat n) 0 G2 ∧ zFr (zIn l) G G2 ∧ zLS G2 l ∧ gI G2 l 0 = Int32.ofNat n ∧ gI G2 l 1 = Int32.ofNat 0 ∧ ∀ h, h < n → zHb (fun _ => False) P A G2 l h zH0
  | d, f, i, G1, hd, hi, hf, hF, hL1, h0, h1, hH => by
    obtain ⟨f, rfl⟩ := z_suc hf
    rw [fX1_begins_b12]
    cases d with
    | zero =>
      obtain rfl : i = n := by omega
      rw [if_pos (zi_le (by omega) (by omega))]
      exact ⟨G1, rfl, hF, hL1, h0, h1, hH⟩
    | succ d =>
      have i8 : i < 8 := by omega
      rw [if_neg (zi_nle (by omega) (by omega))]
      simp only [↓zl_rI, ↓zl_r3, ↓zl_r4, ↓zl_r5, ↓zl_r6, ↓zl_r7, ↓zl_r8, ↓zl_r9, ↓zl_r10, ↓zl_r11, ↓zl_r12, ↓zl_chk, ↓zl_a1, ↓zl_a2, ↓zl_a3, ↓zl_a4, ↓zl_a5, ↓zl_a6, ↓zl_a7, ↓zl_a8, ↓zl_a9, ↓zl_a10, zLS_I, ↓zl_pI, ↓zl_s1, ↓zl_s2, ↓zl_s3, ↓zl_s4, ↓zl_s5, ↓zl_s6, ↓zl_s7, ↓zl_s8, ↓zl_s9, ↓zl_s10, hL1, hB, i8]
      generalize hG2 : gsI (gsI (gsI G1 (l + 2) i (0 &&& 1)) (l + 4) i 0) (l + 5) i 0 = G2
      have hF2 : zFr (zIn l) G1 G2 := by
        subst hG2
        exact ((zFr.wI ⟨by omega, by omega⟩).wI2 ⟨by omega, by omega⟩).wI2 ⟨by omega, by omega⟩
      have hL2 : zLS G2 l := by
        subst hG2
        exact hL1
      obtain ⟨G3, q1, q2, q3⟩ := zc_beg_b41 (x := x) (N := Int32.ofNat n) hL2 hB i8 (fX1_begins_b12 E f) 4 gFU 0 G2 (by omega) (by omega) (z_F _ (by omega)) (zFr.refl _ _) (fun q => by rw [if_neg (by omega)])
      have e0 : ∀ k, gI G2 l k = gI G1 l k := fun k => by
        subst hG2
        rw [zq_II, if_neg (by omega), zq_II, if_neg (by omega), zq_II, if_neg (by omega)]
      obtain ⟨G4, t1, t2⟩ := zc_beg_b12 hn hB d f (i + 1) G3 (by omega) (by omega) (by omega) (hF.trans (hF2.trans (q2.mono fun a ha => ⟨by omega, by omega⟩))) (hL2.fr q2 (q2.R (by omega))) (by rw [q2.I (by omega), e0, h0]) (by rw [q2.I (by omega), e0, h1]) (fun h hh => by
        have k2 : gI G3 (l + 2) h = if h = i then 0 else gI G1 (l + 2) h := by
          rw [q2.I (by omega)]
          subst hG2
          rw [zq_II, if_neg (by omega), zq_II, if_neg (by omega), zq_II]
          simp
        have k4 : gI G3 (l + 4) h = if h = i then 0 else gI G1 (l + 4) h := by
          rw [q2.I (by omega)]
          subst hG2
          rw [zq_II, if_neg (by omega), zq_II, zq_II, if_neg (show ¬ (l + 4 = l + 2 ∧ h = i) by omega)]
          simp
        have k5 : gI G3 (l + 5) h = if h = i then 0 else gI G1 (l + 5) h := by
          rw [q2.I (by omega)]
          subst hG2
          rw [zq_II, zq_II, if_neg (show ¬ (l + 5 = l + 4 ∧ h = i) by omega), zq_II, if_neg (show ¬ (l + 5 = l + 2 ∧ h = i) by omega)]
          simp
        have k3 : ∀ k, k < 4 → gI G3 (l + 3) (4 * h + k) = if h = i then 0 else gI G1 (l + 3) (4 * h + k) := fun k hk => by
          have e : gI G2 (l + 3) (4 * h + k) = gI G1 (l + 3) (4 * h + k) := by
            subst hG2
            rw [zq_II, if_neg (by omega), zq_II, if_neg (by omega), zq_II, if_neg (by omega)]
          rw [q3, e]
          by_cases c : h = i
          · rw [if_pos (by omega), if_pos c]
          · rw [if_neg (by omega), if_neg c]
        by_cases c : h = i
        · subst c
          exact ⟨fun q => q.elim, by rw [k2, if_pos rfl]; rfl, fun k hk => by rw [k3 k hk, if_pos rfl]; rfl, by rw [k4, if_pos rfl]; rfl, by rw [k5, if_pos rfl]; rfl⟩
        · obtain ⟨g1, g2, g3, g4, g5⟩ := hH h (by omega)
          exact ⟨fun q => q.elim, by rw [k2, if_neg c, g2], fun k hk => by rw [k3 k hk, if_neg c, g3 k hk], by rw [k4, if_neg c, g4], by rw [k5, if_neg c, g5]⟩)
      exact ⟨G4, q1.trans t1, t2⟩
theorem zbgI_succ {i : Nat} : zupH (zbgI P o n i) i (zgoes P o n i (zfs P) zH0) = zbgI P o n (i + 1) := by
  unfold zupH zbgI
  refine Prod.ext (funext fun j => ?_) rfl
  show (if j = i then zgoes P o n i (zfs P) zH0 else if j < i then zgoes P o n j (zfs P) zH0 else zH0) = if j < i + 1 then zgoes P o n j (zfs P) zH0 else zH0
  by_cases c : j = i
  · rw [if_pos c, if_pos (by omega), c]
  · rw [if_neg c]
    by_cases c2 : j < i
    · rw [if_pos c2, if_pos (by omega)]
    · rw [if_neg c2, if_neg (by omega)]
theorem zbgI_h {i : Nat} : sh (zbgI P o n i) i = zH0 := if_neg (Nat.lt_irrefl i)
theorem zfs_ok : zfs P < zN P ∨ zfs P = 40 := by
  unfold zfs
  split
  · exact Or.inr rfl
  · exact Or.inl (by omega)
theorem zc_beg_b73 (hx : zLx x l) : ∀ d f i G1, n - i = d → i ≤ n → d < f → zFr (zIn l) G G1 → zCt R P A E G1 x o → zTx R P A G1 x tx → zCB (fun j => j < i) P A G1 l n (zbgI P o n i) T →
    ∃ G2, fX1_begins_b73 E f x (some l) (Int32.ofNat n) (Int32.ofNat i) G1 = some G2 ∧ zFr (zIn l) G G2 ∧ zCL P A G2 l n (zbgI P o n n) T
  | d, f, i, G1, hd, hi, hf, hF, hX, hT, hC => by
    obtain ⟨f, rfl⟩ := z_suc hf
    have hn := hC.n8
    rw [fX1_begins_b73]
    cases d with
    | zero =>
      obtain rfl : i = n := by omega
      rw [if_pos (zi_le (by omega) (by omega))]
      exact ⟨G1, rfl, hF, hC.full fun j hj => hj⟩
    | succ d =>
      have hi2 : i < n := by omega
      have hXS := hX.1
      obtain ⟨t1, t2, t3, t4⟩ := hT
      have kk : (2 : Nat) ≤ gcl G1 tx ∧ gcl G1 tx ≤ 2 := by omega
      rw [if_neg (zi_nle (by omega) (by omega))]
      obtain ⟨G2, g1, g2, g3⟩ := zd_goes (s := zfs P) hx hi2 hC hX (by rw [zbgI_h]; rfl) zfs_ok
      rw [zbgI_h, zbgI_succ] at g3
      have sub : ∀ a, zIn l a → x + 5 ≤ a ∧ a < x + 2253 := fun a ha => by unfold zIn zLx at *; omega
      obtain ⟨G3, u1, u2⟩ := zc_beg_b73 hx d f (i + 1) G2 (by omega) (by omega) (by omega) (hF.trans g2) (hX.fr g2 sub) (zTx.fr ⟨t1, t2, t3, t4⟩ g2 (fun a ha q => by have := hX.2.2.2.1 a ha; have := sub a q; omega) (fun q => by have := sub x q; omega)) (g3.monoQ fun j hj => by
        by_cases c : j = i
        · exact Or.inl c
        · exact Or.inr (show j < i by omega))
      refine ⟨G3, ?_, u2⟩
      simp only [↓zx_rI, ↓zx_rT, ↓zx_chk, ↓zx_ce, ↓zx_r5, ↓zx_r6, ↓zx_r7, ↓zx_r8, ↓zx_r9, ↓zx_r12, ↓zx_r16, ↓zx_r17, ↓zx_r19, ↓zx_r20, ↓zx_r22, ↓zx_r23, ↓zx_r24, ↓zx_r28, ↓zx_r29, ↓zx_r30, ↓zx_r32, ↓zx_a4, ↓zx_a5, ↓zx_a6, ↓zx_a7, ↓zx_a8, ↓zx_a9, ↓zx_a12, ↓zx_a13, ↓zx_a25, ↓zx_a26, ↓zx_a27, ↓zx_a28, ↓zx_a29, ↓zx_a30, zXS_I, hXS, t2, zp_rR kk, t4, g1, Option.bind_some, zi_inc]
      exact u1
theorem zc_begins (hx : zLx x l) (hn : n ≤ 8) (hX : zCt R P A E G x o) (hT : zTx R P A G x tx) (hL : zLS G l) : ∃ G1, fX1_begins E x (some l) (Int32.ofNat n) G = some G1 ∧ zFr (zIn l) G G1 ∧ zCL P A G1 l n (zbeg P o n) T := by
  have hB : gB E ≤ l := by have := hX.2.2.1; have := hx.1; omega
  have sub : ∀ a, zIn l a → x + 5 ≤ a ∧ a < x + 2253 := fun a ha => by unfold zIn zLx at *; omega
  rw [fX1_begins]
  simp only [↓zl_rI, ↓zl_r3, ↓zl_r4, ↓zl_r5, ↓zl_r6, ↓zl_r7, ↓zl_r8, ↓zl_r9, ↓zl_r10, ↓zl_r11, ↓zl_r12, ↓zl_chk, ↓zl_a1, ↓zl_a2, ↓zl_a3, ↓zl_a4, ↓zl_a5, ↓zl_a6, ↓zl_a7, ↓zl_a8, ↓zl_a9, ↓zl_a10, zLS_I, ↓zl_pI, ↓zl_s1, ↓zl_s2, ↓zl_s3, ↓zl_s4, ↓zl_s5, ↓zl_s6, ↓zl_s7, ↓zl_s8, ↓zl_s9, ↓zl_s10, hL, hB]
  obtain ⟨G2, q1, q2, q3, q4, q5, q6⟩ := zc_beg_b12 (P := P) (A := A) (E := E) (G := G) (l := l) (x := x) hn hB n gFU 0 (gsI (gsI G l 0 (Int32.ofNat n)) l 1 0) (by omega) (by omega) (z_F _ (by omega)) ((zFr.wI ⟨by omega, by omega⟩).wI2 ⟨by omega, by omega⟩) hL (by rw [zq_II, if_neg (by omega), zq_II, if_pos ⟨rfl, rfl⟩]) (by rw [zq_II, if_pos ⟨rfl, rfl⟩]; rfl) (fun h hh => absurd hh (by omega))
  have q1' : fX1_begins_b12 E gFU x (some l) (Int32.ofNat n) 0 (gsI (gsI G l 0 (Int32.ofNat n)) l 1 0) = fX1_begins_b73 E gFU x (some l) (Int32.ofNat n) 0 G2 := q1
  rw [q1']
  obtain ⟨G3, t1, t2, t3⟩ := zc_beg_b73 (R := R) (P := P) (A := A) (E := E) (x := x) (tx := tx) (o := o) (T := T) (G := G) hx n gFU 0 G2 (by omega) (by omega) (z_F _ (by omega)) q2 (hX.fr q2 sub) (hT.fr q2 (fun a ha q => by have := hX.2.2.2.1 a ha; have := sub a q; omega) (fun q => by have := sub x q; omega)) ⟨q3, hn, Nat.zero_le _, q4, q5, fun h hh => (by
    have e : sh (zbgI P o n 0) h = zH0 := by
      show (if h < 0 then zgoes P o n h (zfs P) zH0 else zH0) = zH0
      rw [if_neg (Nat.not_lt_zero h)]
    rw [e]
    obtain ⟨w1, w2⟩ := q6 h hh
    exact ⟨fun q => absurd q (Nat.not_lt_zero h), w2⟩), fun k hk => absurd hk (Nat.not_lt_zero k), fun k hk => absurd hk (Nat.not_lt_zero k)⟩
  exact ⟨G3, t1, t2, t3⟩
/-! at an any it is noted whose word it takes -/
def zcd2 (cd : Nat → Nat → Int32) (s h : Nat) (v : Int32) : Nat → Nat → Int32 := fun s' h' => if s' = s ∧ h' = h then cd s h ||| v else cd s' h'
def znote (P : zPr) (n r : Nat) (S : zS) (h f : Nat) (cd : Nat → Nat → Int32) : Nat → Nat → Int32 :=
  if zK P S h = 4 then zcd2 cd (hat (sh S h)) h (zbit f)
  else if zK P S h ≤ 2 ∧ zmay P n r S h = false ∧ zK P S (zto P n S h) = 4 then zcd2 cd (hat (sh S (zto P n S h))) (zto P n S h) (zbit h) else cd
def zCd (G : g_G) (x : Nat) (cd : Nat → Nat → Int32) : Prop := ∀ s h, s < 40 → h < 8 → gI G (x + 12) (8 * s + h) = cd s h
theorem zCd.fr {G1 : g_G} {X : Nat → Prop} {cd : Nat → Nat → Int32} (h : zCd G x cd) (f : zFr X G G1) (hX : ¬ X (x + 12)) : zCd G1 x cd := fun s j hs hj => by
  rw [f.I hX]
  exact h s j hs hj
theorem zCd.w {cd : Nat → Nat → Int32} {s h : Nat} {v : Int32} (q : zCd G x cd) (hs : s < 40) (hh : h < 8) : zCd (gsI G (x + 12) (8 * s + h) (cd s h ||| v)) x (zcd2 cd s h v) := fun s' h' hs' hh' => by
  rw [zq_II]
  unfold zcd2
  by_cases c : s' = s ∧ h' = h
  · rw [if_pos (by omega), if_pos c]
  · rw [if_neg (by omega), if_neg c, q s' h' hs' hh']
theorem zc_notes {h f r : Nat} {cd : Nat → Nat → Int32} (hC : zCL P A G l n S T) (hX : zCt R P A E G x o) (hI : zinv P n S) (hq : zCd G x cd) (hh : h < n) (hf : f < 8) (hr : r < 1000) (hc : zcan P n r S h f = true) :
    ∃ G1, fX1_notes E x (some l) (Int32.ofNat h) (Int32.ofNat f) (Int32.ofNat r) G = some G1 ∧ zFr (fun a => a = x + 12) G G1 ∧ zCd G1 x (znote P n r S h f cd) := by
  have hL := hC.1
  have hn := hC.n8
  have h8 : h < 8 := by omega
  have hB : gB E ≤ x := hX.2.2.1
  have hXS := hX.1
  obtain ⟨ha, hs, hv⟩ := zcan_iff.1 hc
  have hN := hX.2.1.1.1.1
  obtain ⟨k1, k2, k3, k4⟩ := hX.2.1.1.2.2 _ ha
  have hk7 : zkd P (hat (sh S h)) ≤ 7 := by
    rcases hI h hh with w | w
    · omega
    · exact w.2.1
  have ha4 : hat (sh S h) < 40 := by omega
  simp only [fX1_notes, fX1_notes_b38, ↓zl_rI, ↓zl_r3, ↓zl_r4, ↓zl_r5, ↓zl_r6, ↓zl_r7, ↓zl_r8, ↓zl_r9, ↓zl_r10, ↓zl_r11, ↓zl_r12, ↓zl_chk, ↓zl_a1, ↓zl_a2, ↓zl_a3, ↓zl_a4, ↓zl_a5, ↓zl_a6, ↓zl_a7, ↓zl_a8, ↓zl_a9, ↓zl_a10, zLS_I, hL, h8, (hC.hd hh).1, zadr_s ha, zp_rI k1, k2]
  unfold znote
  by_cases c4 : zK P S h = 4
  · have e4 : zkd P (hat (sh S h)) = 4 := c4
    rw [if_pos c4, e4, if_neg (show ¬ ¬ Int32.ofNat 4 = 4 by decide)]
    have i320 : 8 * hat (sh S h) + h < 320 := by omega
    have hL' : ∀ v, zLS (gsI G (x + 12) (8 * hat (sh S h) + h) v) l := fun _ => hL
    have at' : ∀ v, gR (gsI G (x + 12) (8 * hat (sh S h) + h) v) (l + 1) h = some (A (hat (sh S h))) := fun _ => by rw [zq_RI, (hC.hd hh).1, zadr_s ha]
    have kk' : ∀ v, 11 ≤ gcl (gsI G (x + 12) (8 * hat (sh S h) + h) v) (A (hat (sh S h))) ∧ gcl (gsI G (x + 12) (8 * hat (sh S h) + h) v) (A (hat (sh S h))) ≤ 16 := fun _ => k1
    have hlow := hX.2.2.2.1 _ (hX.2.1.2 _ ha).1
    have e0 : ∀ v, gI (gsI G (x + 12) (8 * hat (sh S h) + h) v) (A (hat (sh S h))) 0 = 4 := fun v => by rw [zq_II, if_neg (by omega), k2, e4]; rfl
    simp only [↓zx_rI, ↓zx_rT, ↓zx_chk, ↓zx_ce, ↓zx_r5, ↓zx_r6, ↓zx_r7, ↓zx_r8, ↓zx_r9, ↓zx_r12, ↓zx_r16, ↓zx_r17, ↓zx_r19, ↓zx_r20, ↓zx_r22, ↓zx_r23, ↓zx_r24, ↓zx_r28, ↓zx_r29, ↓zx_r30, ↓zx_r32, ↓zx_a4, ↓zx_a5, ↓zx_a6, ↓zx_a7, ↓zx_a8, ↓zx_a9, ↓zx_a12, ↓zx_a13, ↓zx_a25, ↓zx_a26, ↓zx_a27, ↓zx_a28, ↓zx_a29, ↓zx_a30, zXS_I, ↓zx_pI, ↓zx_pZ, ↓zx_pR, ↓zx_s4, ↓zx_s5, ↓zx_s6, ↓zx_s7, ↓zx_s8, ↓zx_s12, ↓zx_s13, ↓zx_s25, ↓zx_s26, ↓zx_s27, ↓zx_s28, ↓zx_s29, ↓zx_s30, hXS, hB, ↓zl_rI, ↓zl_r3, ↓zl_r4, ↓zl_r5, ↓zl_r6, ↓zl_r7, ↓zl_r8, ↓zl_r9, ↓zl_r10, ↓zl_r11, ↓zl_r12, ↓zl_chk, ↓zl_a1, ↓zl_a2, ↓zl_a3, ↓zl_a4, ↓zl_a5, ↓zl_a6, ↓zl_a7, ↓zl_a8, ↓zl_a9, ↓zl_a10, zLS_I, hL, h8, (hC.hd hh).1, zadr_s ha, zp_rI k1, k3, zi_8, i320, hq _ h ha4 h8, hL' _, at' _, zp_rI (kk' _), e0 _]
    rw [if_pos (by decide)]
    exact ⟨_, rfl, zFr.wI rfl, hq.w ha4 h8⟩
  · rw [if_neg c4]
    have e4 : ¬ Int32.ofNat (zkd P (hat (sh S h))) = 4 := fun q => c4 (zi_inj (a := zkd P (hat (sh S h))) (b := 4) (by omega) (by omega) q)
    rw [if_pos e4]
    by_cases c2 : zK P S h ≤ 2
    · have c2' : zkd P (hat (sh S h)) ≤ 2 := c2
      rw [if_neg (show ¬ (2 : Int32) < Int32.ofNat (zkd P (hat (sh S h))) from zi_nlt (a := 2) (b := zkd P (hat (sh S h))) c2' (by omega))]
      simp only [↓zx_rI, ↓zx_rT, ↓zx_chk, ↓zx_ce, ↓zx_r5, ↓zx_r6, ↓zx_r7, ↓zx_r8, ↓zx_r9, ↓zx_r12, ↓zx_r16, ↓zx_r17, ↓zx_r19, ↓zx_r20, ↓zx_r22, ↓zx_r23, ↓zx_r24, ↓zx_r28, ↓zx_r29, ↓zx_r30, ↓zx_r32, ↓zx_a4, ↓zx_a5, ↓zx_a6, ↓zx_a7, ↓zx_a8, ↓zx_a9, ↓zx_a12, ↓zx_a13, ↓zx_a25, ↓zx_a26, ↓zx_a27, ↓zx_a28, ↓zx_a29, ↓zx_a30, zXS_I, hXS, zc_mayLie hC hX.2.1 hI hh ha hs c2 hr, Option.bind_some, zb_0]
      cases hmay : zmay P n r S h
      · rw [if_pos rfl]
        rw [if_pos c2, hmay, Bool.false_or] at hv
        obtain ⟨t1, t2, t3⟩ := hI.to hn hh ha hN hs (by omega)
        have tt := zc_to (E := E) hC hX.2.1 hh ha c2
        rw [t1] at tt
        obtain ⟨q1, -⟩ := (hX.2.1.2 _ ha).2.1 c2
        have kk : (15 : Nat) ≤ gcl G (A (hat (sh S h))) ∧ gcl G (A (hat (sh S h))) ≤ 15 := by omega
        have hrec : hat (sh S (zto P n S h)) < zN P ∧ (zK P S (zto P n S h) = 3 ∨ zK P S (zto P n S h) = 4) := by
          unfold zhov at hv
          simp only [Bool.and_eq_true, Bool.or_eq_true, zisAt_iff] at hv
          rcases hv.1.1 with w | w
          · exact ⟨w.1.1, Or.inl w.1.2.2⟩
          · exact ⟨w.1, Or.inr w.2.2⟩
        obtain ⟨j1, j2, j3, j4⟩ := hX.2.1.1.2.2 _ hrec.1
        have t8 : zto P n S h < 8 := by omega
        have hb4 : hat (sh S (zto P n S h)) < 40 := by omega
        have i320 : 8 * hat (sh S (zto P n S h)) + zto P n S h < 320 := by omega
        simp only [↓zl_rI, ↓zl_r3, ↓zl_r4, ↓zl_r5, ↓zl_r6, ↓zl_r7, ↓zl_r8, ↓zl_r9, ↓zl_r10, ↓zl_r11, ↓zl_r12, ↓zl_chk, ↓zl_a1, ↓zl_a2, ↓zl_a3, ↓zl_a4, ↓zl_a5, ↓zl_a6, ↓zl_a7, ↓zl_a8, ↓zl_a9, ↓zl_a10, zLS_I, hL, h8, t8, (hC.hd hh).1, (hC.hd t2).1, zadr_s ha, zadr_s hrec.1, zp_cast kk, zp_chk q1, tt, Option.bind_some, zp_rI j1, j2]
        rcases hrec.2 with e | e
        · have e' : zkd P (hat (sh S (zto P n S h))) = 3 := e
          rw [e', if_pos (show ¬ Int32.ofNat 3 = 4 by decide), if_neg (by omega)]
          exact ⟨G, rfl, zFr.refl _ _, hq⟩
        · have e' : zkd P (hat (sh S (zto P n S h))) = 4 := e
          rw [e', if_neg (show ¬ ¬ Int32.ofNat 4 = 4 by decide), if_pos ⟨c2, trivial, e⟩]
          simp only [↓zx_rI, ↓zx_rT, ↓zx_chk, ↓zx_ce, ↓zx_r5, ↓zx_r6, ↓zx_r7, ↓zx_r8, ↓zx_r9, ↓zx_r12, ↓zx_r16, ↓zx_r17, ↓zx_r19, ↓zx_r20, ↓zx_r22, ↓zx_r23, ↓zx_r24, ↓zx_r28, ↓zx_r29, ↓zx_r30, ↓zx_r32, ↓zx_a4, ↓zx_a5, ↓zx_a6, ↓zx_a7, ↓zx_a8, ↓zx_a9, ↓zx_a12, ↓zx_a13, ↓zx_a25, ↓zx_a26, ↓zx_a27, ↓zx_a28, ↓zx_a29, ↓zx_a30, zXS_I, ↓zx_pI, ↓zx_pZ, ↓zx_pR, ↓zx_s4, ↓zx_s5, ↓zx_s6, ↓zx_s7, ↓zx_s8, ↓zx_s12, ↓zx_s13, ↓zx_s25, ↓zx_s26, ↓zx_s27, ↓zx_s28, ↓zx_s29, ↓zx_s30, hXS, hB, ↓zl_rI, ↓zl_r3, ↓zl_r4, ↓zl_r5, ↓zl_r6, ↓zl_r7, ↓zl_r8, ↓zl_r9, ↓zl_r10, ↓zl_r11, ↓zl_r12, ↓zl_chk, ↓zl_a1, ↓zl_a2, ↓zl_a3, ↓zl_a4, ↓zl_a5, ↓zl_a6, ↓zl_a7, ↓zl_a8, ↓zl_a9, ↓zl_a10, zLS_I, hL, t8, (hC.hd t2).1, zadr_s hrec.1, zp_rI j1, j3, zi_8, i320, hq _ _ hb4 t8]
          exact ⟨_, rfl, zFr.wI rfl, hq.w hb4 t8⟩
      · rw [if_neg (by decide), if_neg (by simp)]
        exact ⟨G, rfl, zFr.refl _ _, hq⟩
    · have c2' : ¬ zkd P (hat (sh S h)) ≤ 2 := c2
      rw [if_pos (show (2 : Int32) < Int32.ofNat (zkd P (hat (sh S h))) from zi_lt (a := 2) (by omega) (by omega)), if_neg (fun q => c2 q.1)]
      exact ⟨G, rfl, zFr.refl _ _, hq⟩
end Z15
