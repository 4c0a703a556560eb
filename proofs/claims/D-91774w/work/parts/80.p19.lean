/-! THE PLAIN LAW, 19: lists of the JDK's: emptied, something laid in between -/
set_option maxRecDepth 100000
section Z19
variable {E : g_E} {G G1 : g_G} {pl pe n : Nat}
theorem zc_clear_b27 (hc : gcl G pe = 120) (hB : gB E ≤ pe) (hn : n ≤ gln G pe) (h6 : gln G pe < 1000000) : ∀ d f i G1, n - i = d → i ≤ n → d < f → zFr (fun a => a = pe) G G1 → ∃ G2, fJ2_clear_b27 E f (some pe) (Int32.ofNat n) (Int32.ofNat i) G1 = some G2 ∧ zFr (fun a => a = pe) G G2
  | d, f, i, G1, hd, hi, hf, hF => by
    obtain ⟨f, rfl⟩ := z_suc hf
    rw [fJ2_clear_b27]
    cases d with
    | zero =>
      obtain rfl : i = n := by omega
      rw [if_pos (zi_le (by omega) (by omega))]
      exact ⟨G1, rfl, hF⟩
    | succ d =>
      rw [if_neg (zi_nle (by omega) (by omega)), zp_saR hB (by rw [hF.cl]; exact hc) (by rw [hF.ln]; omega) (by omega) rfl, zi_inc]
      exact zc_clear_b27 hc hB hn h6 d f (i + 1) _ (by omega) (by omega) (by omega) (hF.wR2 rfl)
theorem zc_clear (h : zAL G pl pe n) (hB : gB E ≤ pl) (hBe : gB E ≤ pe) : ∃ G1, fJ2_clear E pl G = some G1 ∧ zAL G1 pl pe 0 ∧ zFr (fun a => a = pl ∨ a = pe) G G1 := by
  have hne : pe ≠ pl := fun q => by have := h.1; have := h.2.1; rw [q] at this; omega
  obtain ⟨a1, a2, a3, a4, a5, a6⟩ := h
  have kk : (17 : Nat) ≤ gcl G pl ∧ gcl G pl ≤ 17 := by omega
  have kk' : (17 : Nat) ≤ gcl (gsI G pl 0 (gI G pl 0 + 1)) pl ∧ gcl (gsI G pl 0 (gI G pl 0 + 1)) pl ≤ 17 := kk
  have e2 : gI (gsI G pl 0 (gI G pl 0 + 1)) pl 2 = Int32.ofNat n := by rw [zq_II, if_neg (by omega), a4]
  have e3 : gR (gsI G pl 0 (gI G pl 0 + 1)) pl 1 = some pe := a3
  simp only [fJ2_clear, zp_rI kk, zp_pI kk hB, zp_rR kk', e3, zp_rI kk', e2, zp_pI kk' hB]
  obtain ⟨G2, g1, g2⟩ := zc_clear_b27 (E := E) (G := gsI (gsI G pl 0 (gI G pl 0 + 1)) pl 2 0) (pe := pe) (n := n) a2 hBe a5 a6 n gFU 0 _ (by omega) (by omega) (z_F _ (by omega)) (zFr.refl _ _)
  have f1 : zFr (fun a => a = pl ∨ a = pe) G G2 := ((zFr.wI (Or.inl rfl)).wI2 (Or.inl rfl)).trans (g2.mono fun a q => Or.inr q)
  refine ⟨G2, g1, ⟨?_, ?_, ?_, ?_, ?_, ?_⟩, f1⟩
  · rw [f1.cl, a1]
  · rw [f1.cl, a2]
  · rw [g2.R (Ne.symm hne)]
    exact a3
  · rw [g2.I (Ne.symm hne), zq_II, if_pos ⟨rfl, rfl⟩]
    rfl
  · omega
  · rw [f1.ln]
    exact a6
theorem gcpy_self {α : Type} (f : Nat → Nat → α) (a k n : Nat) (x j : Nat) : gcpy f a a k (k + 1) n x j = if x = a ∧ k + 1 ≤ j ∧ j < k + 1 + n then f a (j - 1) else f x j := by
  unfold gcpy
  by_cases c : x = a ∧ k + 1 ≤ j ∧ j < k + 1 + n
  · rw [if_pos c, if_pos c]
    congr 1
    omega
  · rw [if_neg c, if_neg c]
theorem zc_addAt {k v : Nat} (h : zAL G pl pe n) (h1 : pl < gsz G) (h2 : pe < gsz G) (h0 : 2 ≤ gln G pe) (hc : n < 1000) (hk : k ≤ n) (hB : gB E ≤ pl) (hBe : gB E ≤ pe) (hBz : gB E ≤ gsz G) (hf : zfit G pe n) (hm : gsz G + 1 ≤ gMc E) (hs : gsl G + zcap n ≤ gMs E) (hv : v < gsz G ∧ gasg 120 (gcl G v) = true) :
    ∃ G1 pe1, fJ2_add E pl (Int32.ofNat k) (some v) G = some G1 ∧ zAL G1 pl pe1 (n + 1) ∧ (∀ i, i < n + 1 → gR G1 pe1 i = zins (gR G pe) k (some v) i) ∧ zFn (fun a => a = pl ∨ a = pe) G G1 ∧
      gsl G1 + 4 * gln G pe ≤ gsl G + 4 * gln G1 pe1 ∧ gsz G1 + gln G pe ≤ gsz G + gln G1 pe1 ∧ (pe1 = pe ∨ pe1 = gsz G) ∧ pe1 < gsz G1 ∧ gln G pe ≤ gln G1 pe1 ∧ zfit G1 pe1 (n + 1) ∧ gB E ≤ pe1 ∧ (gln G1 pe1 = gln G pe ∨ gln G1 pe1 = zcap n) := by
  have hne : pe ≠ pl := fun q => by have := h.1; have := h.2.1; rw [q] at this; omega
  have ha : zAL (gsI G pl 0 (gI G pl 0 + 1)) pl pe n := by
    obtain ⟨a1, a2, a3, a4, a5, a6⟩ := h
    exact ⟨a1, a2, a3, by rw [zq_II, if_neg (by omega)]; exact a4, a5, a6⟩
  obtain ⟨r1, r2, r4, r5, r6, r7, r8, r9, r10, r11, r12, r13⟩ := zroom_ok ha h1 h2 hc h0 hf
  obtain ⟨a1, a2, a3, a4, a5, a6⟩ := h
  have kk : (17 : Nat) ≤ gcl G pl ∧ gcl G pl ≤ 17 := by omega
  have l120 : 100 ≤ gcl G pe := by omega
  have e2 : gI (gsI G pl 0 (gI G pl 0 + 1)) pl 2 = Int32.ofNat n := ha.2.2.2.1
  have kk' : (17 : Nat) ≤ gcl (gsI G pl 0 (gI G pl 0 + 1)) pl ∧ gcl (gsI G pl 0 (gI G pl 0 + 1)) pl ≤ 17 := kk
  have a1' : gcl (gsI G pl 0 (gI G pl 0 + 1)) pl = 17 := a1
  have l120' : 100 ≤ gcl (gsI G pl 0 (gI G pl 0 + 1)) pe := l120
  have a3' : gR (gsI G pl 0 (gI G pl 0 + 1)) pl 1 = some pe := a3
  generalize hG0 : gsI G pl 0 (gI G pl 0 + 1) = G0 at *
  have hBr : gB E ≤ (zroom G0 pl pe n).2 := by
    rcases r9 with e | e <;> rw [e]
    · exact hBe
    · subst hG0
      exact hBz
  have hsz0 : gsz G0 = gsz G := by subst hG0; rfl
  have hcl0 : gcl G0 = gcl G := by subst hG0; rfl
  have hln0 : gln G0 = gln G := by subst hG0; rfl
  have hsl0 : gsl G0 = gsl G := by subst hG0; rfl
  have f0 : zFn (fun a => a = pl) G G0 := by subst hG0; exact (zFr.wI (S := fun a => a = pl) rfl).fn
  have hR0 : gR G0 = gR G := by subst hG0; rfl
  generalize hG2 : (zroom G0 pl pe n).1 = G2 at *
  generalize hp2 : (zroom G0 pl pe n).2 = pe2 at *
  have k2 : (17 : Nat) ≤ gcl G2 pl ∧ gcl G2 pl ≤ 17 := by have := r1.1; omega
  have hne2 : pe2 ≠ pl := fun q => by have := r1.1; have := r1.2.1; rw [q] at this; omega
  have l2 := r1.2.2.2.2.2
  -- the copy
  generalize hG3 : ((gsz G2, gsl G2, gcl G2, gln G2, gcpy (gI G2) pe2 pe2 k (k + 1) (n - k), gcpy (gL G2) pe2 pe2 k (k + 1) (n - k), gcpy (gR G2) pe2 pe2 k (k + 1) (n - k)) : g_G) = G3
  have hcp : gcopy E G2 (some pe2) (Int32.ofNat k) (some pe2) (Int32.ofNat k + 1) (Int32.ofNat n - Int32.ofNat k) = some G3 := by
    have cn : (Int32.ofNat n - Int32.ofNat k) = Int32.ofNat (n - k) := (Int32.ofNat_sub _ _ hk).symm
    unfold gcopy
    rw [cn, zi_inc, Option.bind_some, Option.bind_some, zi_cl (show k < 2147483648 by omega), zi_cl (show k + 1 < 2147483648 by omega), zi_cl (show n - k < 2147483648 by omega), if_pos, hG3]
    refine ⟨hBr, Or.inr r1.2.1, rfl, zi_neg (by omega), zi_neg (by omega), zi_neg (by omega), by omega, by omega, fun j hj => ?_⟩
    unfold gfit
    rw [r1.2.1, if_neg (by decide)]
    exact gasg_r fun b hb => (r12 (k + j) (by omega) b hb).2
  have c3 : gcl G3 = gcl G2 := by subst hG3; rfl
  have l3 : gln G3 = gln G2 := by subst hG3; rfl
  have z3 : gsz G3 = gsz G2 := by subst hG3; rfl
  have s3 : gsl G3 = gsl G2 := by subst hG3; rfl
  have R3 : ∀ a j, gR G3 a j = if a = pe2 ∧ k + 1 ≤ j ∧ j < k + 1 + (n - k) then gR G2 pe2 (j - 1) else gR G2 a j := fun a j => by
    subst hG3
    exact gcpy_self _ _ _ _ _ _
  have I3 : ∀ a, a ≠ pe2 → gI G3 a = gI G2 a := fun a ha => by
    subst hG3
    funext j
    show gcpy (gI G2) pe2 pe2 k (k + 1) (n - k) a j = _
    rw [gcpy_self, if_neg (fun q => ha q.1)]
  have hv2 : (some v).all (fun b => gasg 120 (gcl G3 b)) = true := gasg_r fun b hb => by
    cases hb
    rw [c3, r5.cl (by omega), hcl0]
    exact hv.2
  have tail : fJ2_add_b38 E pl (Int32.ofNat k) (some v) (Int32.ofNat n) (some pe2) G2 = some (gsI (gsR G3 pe2 k (some v)) pl 2 (Int32.ofNat (n + 1))) := by
    have k3 : (17 : Nat) ≤ gcl (gsR G3 pe2 k (some v)) pl ∧ gcl (gsR G3 pe2 k (some v)) pl ≤ 17 := by
      show 17 ≤ gcl G3 pl ∧ gcl G3 pl ≤ 17
      rw [c3]
      exact k2
    have hcp' := hcp
    rw [zi_inc] at hcp'
    simp only [fJ2_add_b38, zi_inc, hcp', Option.bind_some, zp_saR hBr (show gcl G3 pe2 = 120 by rw [c3]; exact r1.2.1) (show k < gln G3 pe2 by rw [l3]; omega) (show k < 2147483648 by omega) hv2, zp_pI k3 hB, zi_inc]
  have fR : ∀ a j, gR (gsI (gsR G3 pe2 k (some v)) pl 2 (Int32.ofNat (n + 1))) a j = if a = pe2 ∧ j = k then some v else gR G3 a j := fun _ _ => rfl
  refine ⟨gsI (gsR G3 pe2 k (some v)) pl 2 (Int32.ofNat (n + 1)), pe2, ?_, ⟨?_, ?_, ?_, ?_, ?_, ?_⟩, fun i hi => ?_, ?_, ?_, ?_, ?_, ?_, ?_, ?_, hBr, ?_⟩
  · have hrc : fJ2_rangeCheckForAdd E pl (Int32.ofNat k) G = some G := by
      simp only [fJ2_rangeCheckForAdd, zp_rI kk, a4]
      rw [if_neg (zi_nlt hk (by omega)), if_pos (Int32.zero_le_ofNat_of_lt (by omega))]
    simp only [fJ2_add, zp_chk a1, hrc, Option.bind_some, zp_rI kk, zp_pI kk hB, hG0, zp_rI kk', e2, zp_rR kk', a3', zp_len l120']
    by_cases c : n = gln G0 pe
    · rw [if_neg (fun q => q (by rw [← c]))]
      have gg := zc_grow (E := E) (G := G0) (pl := pl) (pe := pe) (n := n) ha (by omega) (by omega) c (by rw [hln0] at c; omega) hc hB (by omega) (fun i hi b hb => by rw [hR0] at hb; have := hf i hi b hb; rw [hsz0, hcl0]; exact this) (by omega) (by omega)
      have e1 : (some (gsz G0), zgrow G0 pl pe n) = (some pe2, G2) := by
        unfold zroom at hG2 hp2
        rw [if_pos c] at hG2 hp2
        rw [← hG2, ← hp2]
      rw [zp_chk a1', gg, e1, Option.bind_some]
      exact tail
    · have nn : ¬ Int32.ofNat n = Int32.ofNat (gln G0 pe) := zi_ne (by omega) (by rw [hln0]; omega) c
      rw [if_pos nn]
      have e1 : (some pe, G0) = (some pe2, G2) := by
        unfold zroom at hG2 hp2
        rw [if_neg c] at hG2 hp2
        rw [← hG2, ← hp2]
      have e3 := congrArg Prod.fst e1
      have e4 := congrArg Prod.snd e1
      dsimp only at e3 e4
      rw [e3, e4]
      exact tail
  · show gcl G3 pl = 17
    rw [c3]
    exact r1.1
  · show gcl G3 pe2 = 120
    rw [c3]
    exact r1.2.1
  · rw [fR, if_neg (fun q => hne2 q.1.symm), R3, if_neg (fun q => hne2 q.1.symm)]
    exact r1.2.2.1
  · rw [zq_II, if_pos ⟨rfl, rfl⟩]
  · show n + 1 ≤ gln G3 pe2
    rw [l3]
    omega
  · show gln G3 pe2 < 1000000
    rw [l3]
    exact l2
  · rw [fR, R3]
    unfold zins
    by_cases c1 : i < k
    · rw [if_neg (by omega), if_neg (by omega), if_pos c1, r4 i (by omega), hR0]
    · rw [if_neg c1]
      by_cases c2 : i = k
      · rw [if_pos ⟨rfl, c2⟩, if_pos c2]
      · rw [if_neg (by omega), if_neg c2, if_pos (by omega), r4 (i - 1) (by omega), hR0]
  · refine ⟨?_, fun a ha => ?_⟩
    · show gsz G ≤ gsz G3
      have := r5.1
      omega
    · have ha0 : a < gsz G0 := by omega
      refine ⟨?_, ?_, fun q => ⟨?_, ?_⟩⟩
      · show gcl G3 a = _
        rw [c3, r5.cl ha0, hcl0]
      · show gln G3 a = _
        rw [l3, r5.ln ha0, hln0]
      · have hp : a ≠ pe2 := fun w => by
          rcases r9 with e | e
          · exact q (Or.inr (by rw [w, e]))
          · omega
        have hl : a ≠ pl := fun w => q (Or.inl w)
        have : gI (gsI (gsR G3 pe2 k (some v)) pl 2 (Int32.ofNat (n + 1))) a = gI G3 a := zg2 hl
        rw [this, I3 a hp, r5.I ha0 hl, f0.I ha hl]
      · have hp : a ≠ pe2 := fun w => by
          rcases r9 with e | e
          · exact q (Or.inr (by rw [w, e]))
          · omega
        have hl : a ≠ pl := fun w => q (Or.inl w)
        funext j
        rw [fR, if_neg (fun w => hp w.1), R3, if_neg (fun w => hp w.1), r5.R ha0 hl, hR0]
  · show gsl G3 + _ ≤ _ + 4 * gln G3 pe2
    rw [s3, l3]
    rw [hln0, hsl0] at r7
    exact r7
  · show gsz G3 + _ ≤ _ + gln G3 pe2
    rw [z3, l3]
    rw [hln0, hsz0] at r8
    exact r8
  · rw [← hsz0]
    exact r9
  · show pe2 < gsz G3
    rw [z3]
    exact r10
  · show _ ≤ gln G3 pe2
    rw [l3, ← hln0]
    exact r11
  · intro i hi b hb
    rw [fR, R3] at hb
    have old : ∀ i', i' < n → gR G2 pe2 i' = some b → b < gsz G3 ∧ gasg 120 (gcl G3 b) = true := fun i' hi' hb' => by
      rw [z3, c3]
      exact r12 i' hi' b hb'
    show b < gsz G3 ∧ gasg 120 (gcl G3 b) = true
    by_cases c : i = k
    · rw [if_pos ⟨rfl, c⟩] at hb
      cases hb
      rw [z3, c3, r5.cl (by omega), hcl0]
      exact ⟨by have := r5.1; omega, hv.2⟩
    · rw [if_neg (fun q => c q.2)] at hb
      by_cases c2 : pe2 = pe2 ∧ k + 1 ≤ i ∧ i < k + 1 + (n - k)
      · rw [if_pos c2] at hb
        exact old _ (by omega) hb
      · rw [if_neg c2] at hb
        exact old i (by omega) hb
  · show gln G3 pe2 = _ ∨ gln G3 pe2 = _
    rw [l3, ← hln0]
    exact r13
end Z19
