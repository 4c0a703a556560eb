/-! THE PLAIN LAW, 21: an ending is noted -/
set_option maxRecDepth 100000
def zEL (G : g_G) (x n pe : Nat) (L : zL) : Prop := zAL G (x + 10) pe L.1 ∧ (∀ i, i < L.1 → ∃ b, gR G pe i = some b ∧ zEO G (x + 2253) b n (L.2 i)) ∧ 2 ≤ gln G pe ∧ pe < gsz G ∧ (pe = x + 11 ∨ x + 2253 ≤ pe)
section Z21
variable {P : zPr} {A : Nat → Nat} {E : g_E} {G : g_G} {l n : Nat} {S : zS} {T : Nat → Int32} {R : Nat → Prop} {x : Nat} {o : Nat → Bool}
theorem zEL.fn {G1 : g_G} {X : Nat → Prop} {pe : Nat} {L : zL} (h : zEL G x n pe L) (f : zFn X G G1) (hz : x + 2253 ≤ gsz G) (hX : ∀ a, X a → x + 2253 ≤ a → False) (h10 : ¬ X (x + 10)) (h11 : ¬ X (x + 11)) : zEL G1 x n pe L := by
  obtain ⟨h1, h2, h3, h4, h5⟩ := h
  have np : ¬ X pe := fun q => by
    rcases h5 with e | e
    · exact h11 (e ▸ q)
    · exact hX _ q e
  refine ⟨h1.fn f (by omega) h4 h10, fun i hi => ?_, by rw [f.ln h4]; exact h3, by have := f.1; omega, h5⟩
  obtain ⟨b, b1, b2⟩ := h2 i hi
  exact ⟨b, by rw [f.R h4 np, b1], b2.fn f (fun a q w => (hX a q w).elim)⟩
theorem zEL.fit {pe : Nat} {L : zL} (h : zEL G x n pe L) : zfit G pe L.1 := fun i hi b hb => by
  obtain ⟨c, c1, c2⟩ := h.2.1 i hi
  rw [c1] at hb
  cases hb
  obtain ⟨a1, a2, a3, a4, t, a5, a6, a7, a8, a9, hb, ht⟩ := c2
  exact ⟨hb, by rw [a1]; rfl⟩
theorem zepos_succ (f : Nat → zE) (e : zE) (m : Nat) : zepos n f e (m + 1) = if zahead n e (f m) = true then zepos n f e m else m + 1 := rfl
theorem zepos_le (f : Nat → zE) (e : zE) : ∀ m, zepos n f e m ≤ m
  | 0 => Nat.le_refl 0
  | m + 1 => by
    have := zepos_le f e m
    rw [zepos_succ]
    split <;> omega
theorem zc_ew_b68 {pe b : Nat} {L : zL} {e : zE} (hXS : zXS G x) (h0 : gI G x 0 = Int32.ofNat n) (hn : n ≤ 8) (hL : zEL G x n pe L) (hb : zEO G (x + 2253) b n e) (hc : L.1 < 1000) : ∀ i f, i ≤ L.1 → i < f →
    fX1_endsWith_b68 E f x (some b) (Int32.ofNat i) G = fX1_endsWith_b102 E x (some b) (Int32.ofNat (zepos n L.2 e i)) G
  | i, f, hi, hf => by
    obtain ⟨f, rfl⟩ := z_suc hf
    rw [fX1_endsWith_b68]
    cases i with
    | zero =>
      rw [if_pos (show Int32.ofNat 0 ≤ 0 from Int32.le_refl _)]
      rfl
    | succ i =>
      obtain ⟨c, c1, c2⟩ := hL.2.1 i (by omega)
      have kc : (7 : Nat) ≤ gcl G c ∧ gcl G c ≤ 7 := by have := c2.1; omega
      rw [if_neg (show ¬ Int32.ofNat (i + 1) ≤ 0 from zi_nle (b := 0) (by omega) (by omega)), zepos_succ]
      simp only [↓zx_rI, ↓zx_rT, ↓zx_chk, ↓zx_ce, ↓zx_r5, ↓zx_r6, ↓zx_r7, ↓zx_r8, ↓zx_r9, ↓zx_r12, ↓zx_r16, ↓zx_r17, ↓zx_r19, ↓zx_r20, ↓zx_r22, ↓zx_r23, ↓zx_r24, ↓zx_r28, ↓zx_r29, ↓zx_r30, ↓zx_r32, ↓zx_a4, ↓zx_a5, ↓zx_a6, ↓zx_a7, ↓zx_a8, ↓zx_a9, ↓zx_a12, ↓zx_a13, ↓zx_a25, ↓zx_a26, ↓zx_a27, ↓zx_a28, ↓zx_a29, ↓zx_a30, zXS_I, hXS, zi_dec, zc_get hL.1 (show i < L.1 by omega), Option.bind_some, c1, zp_cast kc, h0, zp_chk hb.1, zc_ahead hn hb c2, zb_0, zi_dec2]
      cases q : zahead n e (L.2 i)
      · rw [if_pos rfl, if_neg (by decide)]
      · rw [if_neg (by decide), if_pos rfl]
        exact zc_ew_b68 hXS h0 hn hL hb hc i f (by omega) (by omega)
theorem zc_ew_b34 {b t : Nat} {K : Option Nat} (hB : gB E ≤ x) (hz : x + 2253 ≤ t) (hb : b ≠ t) (hn : n ≤ 8) : ∀ d f i G1, n - i = d → i ≤ n → d < f → zXS G1 x → gI G1 x 0 = Int32.ofNat n → gcl G1 b = 7 → gR G1 b 3 = some t → gcl G1 t = 100 → gln G1 t = 8 → zCL P A G1 l n S T → l + 10 < t → (∀ h, h < i → gI G1 t h = htd (sh S h)) →
    ∃ G2, fX1_endsWith_b34 E f x (some l) (some b) (Int32.ofNat i) G1 = (grR G2 1 1 (some x) 16).bind (fun x61 => (gchk G2 17 x61).bind fun b64 => (fJ2_size E b64 G2).bind fun z64 => fX1_endsWith_b68 E gFU x (some b) z64.1 z64.2) ∧ zFr (fun a => a = t) G1 G2 ∧ ∀ h, h < n → gI G2 t h = htd (sh S h)
  | d, f, i, G1, hd, hi, hf, hXS, h0, k1, k2, k3, k4, hC, hlt, hh => by
    obtain ⟨f, rfl⟩ := z_suc hf
    rw [fX1_endsWith_b34]
    simp only [↓zx_rI, ↓zx_rT, ↓zx_chk, ↓zx_ce, ↓zx_r5, ↓zx_r6, ↓zx_r7, ↓zx_r8, ↓zx_r9, ↓zx_r12, ↓zx_r16, ↓zx_r17, ↓zx_r19, ↓zx_r20, ↓zx_r22, ↓zx_r23, ↓zx_r24, ↓zx_r28, ↓zx_r29, ↓zx_r30, ↓zx_r32, ↓zx_a4, ↓zx_a5, ↓zx_a6, ↓zx_a7, ↓zx_a8, ↓zx_a9, ↓zx_a12, ↓zx_a13, ↓zx_a25, ↓zx_a26, ↓zx_a27, ↓zx_a28, ↓zx_a29, ↓zx_a30, zXS_I, hXS, h0]
    cases d with
    | zero =>
      obtain rfl : i = n := by omega
      rw [if_pos (zi_le (by omega) (by omega))]
      refine ⟨G1, ?_, zFr.refl _ _, hh⟩
      simp only [↓zx_rI, ↓zx_rT, ↓zx_chk, ↓zx_ce, ↓zx_r5, ↓zx_r6, ↓zx_r7, ↓zx_r8, ↓zx_r9, ↓zx_r12, ↓zx_r16, ↓zx_r17, ↓zx_r19, ↓zx_r20, ↓zx_r22, ↓zx_r23, ↓zx_r24, ↓zx_r28, ↓zx_r29, ↓zx_r30, ↓zx_r32, ↓zx_a4, ↓zx_a5, ↓zx_a6, ↓zx_a7, ↓zx_a8, ↓zx_a9, ↓zx_a12, ↓zx_a13, ↓zx_a25, ↓zx_a26, ↓zx_a27, ↓zx_a28, ↓zx_a29, ↓zx_a30, zXS_I, hXS]
    | succ d =>
      have hL := hC.1
      have i8 : i < 8 := by omega
      have kb : (7 : Nat) ≤ gcl G1 b ∧ gcl G1 b ≤ 7 := by omega
      rw [if_neg (zi_nle (by omega) (by omega))]
      simp only [zp_rR kb, k2, ↓zl_rI, ↓zl_r3, ↓zl_r4, ↓zl_r5, ↓zl_r6, ↓zl_r7, ↓zl_r8, ↓zl_r9, ↓zl_r10, ↓zl_r11, ↓zl_r12, ↓zl_chk, ↓zl_a1, ↓zl_a2, ↓zl_a3, ↓zl_a4, ↓zl_a5, ↓zl_a6, ↓zl_a7, ↓zl_a8, ↓zl_a9, ↓zl_a10, zLS_I, hL, i8, (hC.hd (show i < n by omega)).2.2.2.2, zp_saI (show gB E ≤ t by omega) k3 (show i < gln G1 t by omega) (show i < 2147483648 by omega), zi_inc]
      have f1 : zFr (fun a => a = t) G1 (gsI G1 t i (htd (sh S i))) := zFr.wI rfl
      obtain ⟨G2, g1, g2, g3⟩ := zc_ew_b34 (K := K) hB hz hb hn d f (i + 1) _ (by omega) (by omega) (by omega) (show zXS (gsI G1 t i (htd (sh S i))) x from hXS) (by rw [f1.I (by omega), h0]) k1 k2 k3 k4 (hC.fr f1 (fun a ha q => by unfold zIn at ha; omega)) hlt (fun h hh2 => by
        rw [zq_II]
        by_cases c : h = i
        · rw [if_pos ⟨rfl, c⟩, c]
        · rw [if_neg (fun q => c q.2), hh h (by omega)])
      exact ⟨G2, g1, f1.trans g2, g3⟩
theorem zeins_1 {L : zL} {e : zE} : (zeins n L e).1 = L.1 ∨ (zeins n L e).1 = L.1 + 1 := by
  unfold zeins
  split
  · exact Or.inl rfl
  · exact Or.inr rfl
theorem zc_ew_sz {pe : Nat} {L : zL} (K : Int32 → g_G → Option g_G) (hXS : zXS G x) (hL : zEL G x n pe L) : (grR G 1 1 (some x) 16).bind (fun x61 => (gchk G 17 x61).bind fun b64 => (fJ2_size E b64 G).bind fun z64 => K z64.1 z64.2) = K (Int32.ofNat L.1) G := by
  rw [zx_r16 hXS, zx_ce hXS, zc_size hL.1, Option.bind_some]
theorem zc_endsWith {pe : Nat} {L : zL} (hX : zCt R P A E G x o) (hz : x + 2253 ≤ gsz G) (hR : ∀ a, R a → a < gsz G) (hRp : ¬ R pe) (h0 : gI G x 0 = Int32.ofNat n) (hC : zCL P A G l n S T) (hlx : zLx x l) (hL : zEL G x n pe L) (hL2 : L.1 ≤ 300) (hm : gsz G + 3 ≤ gMc E) (hs : gsl G + 12 + zcap L.1 ≤ gMs E) :
    ∃ G1 pe1, fX1_endsWith E x (some l) G = some G1 ∧ zEL G1 x n pe1 (zeins n L (zend P n S)) ∧ zFn (fun a => a = x + 10 ∨ a = pe) G G1 ∧ ¬ R pe1 ∧ (pe1 = pe ∨ gsz G ≤ pe1) ∧
      gsl G1 + 4 * gln G pe ≤ gsl G + 12 + 4 * gln G1 pe1 ∧ gsz G1 + gln G pe ≤ gsz G + 2 + gln G1 pe1 ∧ gln G pe ≤ gln G1 pe1 ∧ (gln G1 pe1 = gln G pe ∨ gln G1 pe1 = zcap L.1) := by
  have hB := hX.2.2.1
  have hn := hC.n8
  -- the new one
  have o1 : gsz (gnew G 7 4) + 1 ≤ gMc E := by rw [zq_szN]; omega
  have o2 : gsl (gnew G 7 4) + 8 ≤ gMs E := by rw [zq_slN]; omega
  generalize hGa : gsR (gnew (gnew G 7 4) 100 8) (gsz G) 3 (some (gsz G + 1)) = Ga
  have f1 : zFn (fun _ => False) G (gnew G 7 4) := zFn.new
  have f2 : zFn (fun _ => False) G (gnew (gnew G 7 4) 100 8) := f1.trans (X' := fun _ => False) zFn.new (fun _ _ q => q)
  have fa : zFn (fun _ => False) G Ga := by
    subst hGa
    exact f2.trans (X' := fun a => a = gsz G) ((zFr.wR (S := fun a => a = gsz G) rfl).fn) (fun a ha q => absurd q (by omega))
  have cb : gcl Ga (gsz G) = 7 := by
    subst hGa
    show (if gsz G = gsz G + 1 then 100 else if gsz G = gsz G then 7 else gcl G (gsz G)) = 7
    rw [if_neg (by omega), if_pos rfl]
  have ct : gcl Ga (gsz G + 1) = 100 := by
    subst hGa
    show (if gsz G + 1 = gsz G + 1 then 100 else _) = 100
    rw [if_pos rfl]
  have lt : gln Ga (gsz G + 1) = 8 := by
    subst hGa
    show (if gsz G + 1 = gsz G + 1 then 8 else _) = 8
    rw [if_pos rfl]
  have rb : gR Ga (gsz G) 3 = some (gsz G + 1) := by
    subst hGa
    rw [zq_RR, if_pos ⟨rfl, rfl⟩]
  have za : gsz Ga = gsz G + 2 := by
    subst hGa
    rfl
  have sa : gsl Ga = gsl G + 12 := by
    subst hGa
    rfl
  have hXa : zCt R P A E Ga x o := hX.fn fa hz (fun a ha => ⟨hR a ha, id⟩) id id
  have hCa : zCL P A Ga l n S T := hC.fn fa (by unfold zLx at hlx; omega) (fun _ _ q => q)
  have hLa : zEL Ga x n pe L := hL.fn fa hz (fun _ q => q.elim) id id
  have start : fX1_endsWith E x (some l) G = (fX3_kind E l Ga).bind fun z10 => (gpI E z10.2 7 7 (some (gsz G)) 0 z10.1).bind fun G13 => (grI G13 3 3 (some l) 1).bind fun x18 => (gpI E G13 7 7 (some (gsz G)) 1 x18).bind fun G21 => (gchk G21 3 (some l)).bind fun b26 => (fX3_bits E b26 G21).bind fun z26 => (gpI E z26.2 7 7 (some (gsz G)) 2 z26.1).bind fun G29 => fX1_endsWith_b34 E gFU x (some l) (some (gsz G)) 0 G29 := by
    have hLl := hCa.1
    have e8 : gnewA E (gnew G 7 4) 100 8 = gnewA E (gnew G 7 4) 100 (Int32.ofNat 8) := rfl
    have kb : (7 : Nat) ≤ gcl (gnew (gnew G 7 4) 100 8) (gsz G) ∧ gcl (gnew (gnew G 7 4) 100 8) (gsz G) ≤ 7 := by
      have : gcl (gnew (gnew G 7 4) 100 8) (gsz G) = gcl Ga (gsz G) := by subst hGa; rfl
      omega
    have ez : gsz (gnew G 7 4) = gsz G + 1 := rfl
    rw [fX1_endsWith, zp_newO (by omega) (by omega)]
    simp only [fX18_init, e8, zp_newA (Nat.le_of_ble_eq_true rfl : 8 ≤ 67108864) o1 o2, ez, zp_pR kb (show gB E ≤ gsz G by omega), hGa, Option.bind_some, zl_chk hLl]
  have kb : (7 : Nat) ≤ gcl Ga (gsz G) ∧ gcl Ga (gsz G) ≤ 7 := by omega
  generalize hGd : gsI (gsI (gsI Ga (gsz G) 0 (zkind P n S)) (gsz G) 1 (Int32.ofNat (sm S))) (gsz G) 2 (zlive P n S) = Gd
  have fd : zFr (fun a => a = gsz G) Ga Gd := by
    subst hGd
    exact ((zFr.wI (S := fun a => a = gsz G) rfl).wI2 rfl).wI2 rfl
  have hlt : l + 10 < gsz G := by unfold zLx at hlx; omega
  have dj : ∀ a, zIn l a → ¬ a = gsz G := fun a ha q => by unfold zIn at ha; omega
  have hCd : zCL P A Gd l n S T := hCa.fr fd dj
  have hXSd : zXS Gd x := hXa.1.fr fd (fd.R (by omega))
  have h0d : gI Gd x 0 = Int32.ofNat n := by rw [fd.I (by omega), fa.I (by omega) id, h0]
  have start2 : fX1_endsWith E x (some l) G = fX1_endsWith_b34 E gFU x (some l) (some (gsz G)) 0 Gd := by
    have kb1 : ∀ v, (7 : Nat) ≤ gcl (gsI Ga (gsz G) 0 v) (gsz G) ∧ gcl (gsI Ga (gsz G) 0 v) (gsz G) ≤ 7 := fun _ => kb
    have kb2 : ∀ v w, (7 : Nat) ≤ gcl (gsI (gsI Ga (gsz G) 0 v) (gsz G) 1 w) (gsz G) ∧ gcl (gsI (gsI Ga (gsz G) 0 v) (gsz G) 1 w) (gsz G) ≤ 7 := fun _ _ => kb
    have hC1 : zCL P A (gsI Ga (gsz G) 0 (zkind P n S)) l n S T := hCa.fr (X := fun a => a = gsz G) (zFr.wI rfl) dj
    have hC2 : zCL P A (gsI (gsI Ga (gsz G) 0 (zkind P n S)) (gsz G) 1 (Int32.ofNat (sm S))) l n S T := hC1.fr (X := fun a => a = gsz G) (zFr.wI rfl) dj
    have hl1 := hC1.1
    have hl2 := hC2.1
    rw [start]
    simp only [zc_kind hCa, Option.bind_some, zp_pI kb (show gB E ≤ gsz G by omega), zl_rI hl1, hC1.I1, zp_pI (kb1 _) (show gB E ≤ gsz G by omega), zl_chk hl2, zc_bits hC2, zp_pI (kb2 _ _) (show gB E ≤ gsz G by omega), hGd]
  obtain ⟨Ge, e1, e2, e3⟩ := zc_ew_b34 (E := E) (x := x) (K := none) hB (show x + 2253 ≤ gsz G + 1 by omega) (show gsz G ≠ gsz G + 1 by omega) hn n gFU 0 Gd (by omega) (by omega) (z_F _ (by omega)) hXSd h0d (by rw [fd.cl]; exact cb) (by
    subst hGd
    exact rb) (by rw [fd.cl]; exact ct) (by rw [fd.ln]; exact lt) hCd (by omega) (fun h hh => absurd hh (Nat.not_lt_zero h))
  have fe : zFn (fun _ => False) G Ge := (fa.trans fd.fn (X' := fun a => a = gsz G) (fun a ha q => absurd q (by omega))).trans e2.fn (fun a ha q => absurd q (by omega))
  have ze : gsz Ge = gsz G + 2 := by rw [e2.1, fd.1, za]
  have se : gsl Ge = gsl G + 12 := by rw [e2.2.1, fd.2.1, sa]
  have hXe : zXS Ge x := hXSd.fr e2 (e2.R (by omega))
  have h0e : gI Ge x 0 = Int32.ofNat n := by rw [e2.I (by omega), h0d]
  have hLe : zEL Ge x n pe L := hL.fn fe hz (fun _ q => q.elim) id id
  have hbe : zEO Ge (x + 2253) (gsz G) n (zend P n S) := by
    have i0 : gI Ge (gsz G) = gI Gd (gsz G) := e2.I (by omega)
    refine ⟨by rw [e2.cl, fd.cl]; exact cb, ?_, ?_, ?_, gsz G + 1, ?_, by rw [e2.cl, fd.cl]; exact ct, by rw [e2.ln, fd.ln]; exact lt, e3, ⟨by omega, by omega⟩, by omega, by omega⟩
    · rw [i0]
      subst hGd
      rw [zq_II, if_neg (by omega), zq_II, if_neg (by omega), zq_II, if_pos ⟨rfl, rfl⟩]
      rfl
    · rw [i0]
      subst hGd
      rw [zq_II, if_neg (by omega), zq_II, if_pos ⟨rfl, rfl⟩]
      rfl
    · rw [i0]
      subst hGd
      rw [zq_II, if_pos ⟨rfl, rfl⟩]
      rfl
    · rw [e2.R (by omega)]
      subst hGd
      exact rb
  have lpe : gln Ge pe = gln G pe := fe.ln hL.2.2.2.1
  have e1' : fX1_endsWith_b34 E gFU x (some l) (some (gsz G)) 0 Gd = _ := e1
  rw [start2, e1', zc_ew_sz (fX1_endsWith_b68 E gFU x (some (gsz G))) hXe hLe, zc_ew_b68 hXe h0e hn hLe hbe (show L.1 < 1000 by omega) L.1 gFU (Nat.le_refl _) (z_F _ (by omega))]
  have hk := zepos_le (n := n) L.2 (zend P n S) L.1
  rw [fX1_endsWith_b102]
  have add : ∃ G1 pe1, fX1_endsWith_b131 E x (some (gsz G)) (Int32.ofNat (zepos n L.2 (zend P n S) L.1)) Ge = some G1 ∧ zEL G1 x n pe1 (L.1 + 1, zins L.2 (zepos n L.2 (zend P n S) L.1) (zend P n S)) ∧ zFn (fun a => a = x + 10 ∨ a = pe) G G1 ∧ ¬ R pe1 ∧ (pe1 = pe ∨ gsz G ≤ pe1) ∧
      gsl G1 + 4 * gln G pe ≤ gsl G + 12 + 4 * gln G1 pe1 ∧ gsz G1 + gln G pe ≤ gsz G + 2 + gln G1 pe1 ∧ gln G pe ≤ gln G1 pe1 ∧ (gln G1 pe1 = gln G pe ∨ gln G1 pe1 = zcap L.1) := by
    have hBpe : gB E ≤ pe := by rcases hL.2.2.2.2 with e | e <;> omega
    obtain ⟨G1, pe1, g1, g2, g3, g4, g5, g6, g7, g8, g9, g10, g11, g12⟩ := zc_addAt (E := E) (k := zepos n L.2 (zend P n S) L.1) (v := gsz G) hLe.1 (by omega) (by have := hL.2.2.2.1; omega) (by rw [lpe]; exact hL.2.2.1) (by omega) hk (show gB E ≤ x + 10 by omega) hBpe (by omega) hLe.fit (by omega) (by omega) ⟨by omega, by rw [hbe.1]; rfl⟩
    have hpe120 : gcl G pe = 120 := hL.1.2.1
    have f4 : zFn (fun a => a = x + 10 ∨ a = pe) G G1 := (fe.mono (fun _ _ q => q.elim)).trans g4 (fun a _ q => q)
    rw [lpe] at g5 g6 g9 g12
    have h22 := hL.2.2.1
    refine ⟨G1, pe1, ?_, ⟨g2, fun i hi => ?_, by omega, g8, ?_⟩, f4, ?_, ?_, by omega, by omega, by omega, g12⟩
    · simp only [fX1_endsWith_b131, ↓zx_rI, ↓zx_rT, ↓zx_chk, ↓zx_ce, ↓zx_r5, ↓zx_r6, ↓zx_r7, ↓zx_r8, ↓zx_r9, ↓zx_r12, ↓zx_r16, ↓zx_r17, ↓zx_r19, ↓zx_r20, ↓zx_r22, ↓zx_r23, ↓zx_r24, ↓zx_r28, ↓zx_r29, ↓zx_r30, ↓zx_r32, ↓zx_a4, ↓zx_a5, ↓zx_a6, ↓zx_a7, ↓zx_a8, ↓zx_a9, ↓zx_a12, ↓zx_a13, ↓zx_a25, ↓zx_a26, ↓zx_a27, ↓zx_a28, ↓zx_a29, ↓zx_a30, zXS_I, hXe, g1, Option.bind_some]
    · have hi : i < L.1 + 1 := hi
      rw [g3 i hi]
      show ∃ b, zins (gR Ge pe) _ (some (gsz G)) i = some b ∧ zEO G1 (x + 2253) b n (zins L.2 _ (zend P n S) i)
      have old : ∀ j, j < L.1 → ∃ b, gR Ge pe j = some b ∧ zEO G1 (x + 2253) b n (L.2 j) := fun j hj => by
        obtain ⟨b, b1, b2⟩ := hLe.2.1 j hj
        refine ⟨b, b1, b2.fn g4 fun a q w => ?_⟩
        rcases q with q | q
        · omega
        · rw [q]
          exact hLe.1.2.1
      unfold zins
      by_cases c1 : i < zepos n L.2 (zend P n S) L.1
      · rw [if_pos c1, if_pos c1]
        exact old i (by omega)
      · rw [if_neg c1, if_neg c1]
        by_cases c2 : i = zepos n L.2 (zend P n S) L.1
        · rw [if_pos c2, if_pos c2]
          refine ⟨gsz G, rfl, hbe.fn g4 fun a q w => ?_⟩
          rcases q with q | q
          · omega
          · rw [q]
            exact hLe.1.2.1
        · rw [if_neg c2, if_neg c2]
          exact old (i - 1) (by omega)
    · rcases g7 with e | e
      · rw [e]
        exact hL.2.2.2.2
      · exact Or.inr (by omega)
    · rcases g7 with e | e
      · rw [e]
        exact hRp
      · intro q
        have := hR _ q
        omega
    · rcases g7 with e | e
      · exact Or.inl e
      · exact Or.inr (by omega)
  unfold zeins
  by_cases c : 0 < zepos n L.2 (zend P n S) L.1
  · obtain ⟨k, hkk⟩ : ∃ k, zepos n L.2 (zend P n S) L.1 = k + 1 := ⟨zepos n L.2 (zend P n S) L.1 - 1, by omega⟩
    rw [hkk] at add ⊢
    obtain ⟨c', c1, c2⟩ := hLe.2.1 k (by omega)
    have kc : (7 : Nat) ≤ gcl Ge c' ∧ gcl Ge c' ≤ 7 := by have := c2.1; omega
    rw [if_neg (show ¬ Int32.ofNat (k + 1) ≤ 0 from zi_nle (b := 0) (by omega) (by omega))]
    simp only [↓zx_rI, ↓zx_rT, ↓zx_chk, ↓zx_ce, ↓zx_r5, ↓zx_r6, ↓zx_r7, ↓zx_r8, ↓zx_r9, ↓zx_r12, ↓zx_r16, ↓zx_r17, ↓zx_r19, ↓zx_r20, ↓zx_r22, ↓zx_r23, ↓zx_r24, ↓zx_r28, ↓zx_r29, ↓zx_r30, ↓zx_r32, ↓zx_a4, ↓zx_a5, ↓zx_a6, ↓zx_a7, ↓zx_a8, ↓zx_a9, ↓zx_a12, ↓zx_a13, ↓zx_a25, ↓zx_a26, ↓zx_a27, ↓zx_a28, ↓zx_a29, ↓zx_a30, zXS_I, hXe, zi_dec, zc_get hLe.1 (show k < L.1 by omega), Option.bind_some, c1, zp_cast kc, h0e, zp_chk c2.1, zc_elike hn c2 hbe, zb_0, Nat.add_sub_cancel]
    cases q : zelike n (L.2 k) (zend P n S)
    · rw [if_pos rfl, if_neg (by simp)]
      exact add
    · rw [if_neg (by decide), if_pos (by simp)]
      exact ⟨Ge, pe, rfl, hLe, fe.mono (fun _ _ q => q.elim), hRp, Or.inl rfl, by omega, by omega, by omega, Or.inl lpe⟩
  · have c0 : zepos n L.2 (zend P n S) L.1 = 0 := by omega
    rw [c0] at add ⊢
    rw [if_pos (show Int32.ofNat 0 ≤ 0 from Int32.le_refl _), if_neg (show ¬ (0 < 0 ∧ zelike n (L.2 (0 - 1)) (zend P n S) = true) from fun q => absurd q.1 (Nat.lt_irrefl 0))]
    exact add
end Z21
