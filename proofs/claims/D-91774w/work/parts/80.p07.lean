/-! THE PLAIN LAW, 7: a Life of the class is copied -/
set_option maxRecDepth 100000
section Z7
variable {P : zPr} {A : Nat → Nat} {E : g_E} {G : g_G} {l n : Nat} {S : zS} {T : Nat → Int32}
theorem zCL.fr {G1 : g_G} {X : Nat → Prop} (hC : zCL P A G l n S T) (f : zFr X G G1) (hX : ∀ a, zIn l a → ¬ X a) : zCL P A G1 l n S T := by
  have e : ∀ k, k ≤ 10 → gI G1 (l + k) = gI G (l + k) ∧ gR G1 (l + k) = gR G (l + k) := fun k hk => ⟨f.I (hX _ ⟨by omega, by omega⟩), f.R (hX _ ⟨by omega, by omega⟩)⟩
  refine ⟨hC.1.fr f (e 0 (by omega)).2, hC.n8, hC.m3, ?_, ?_, fun h hh => (hC.hd hh).fr fun a a1 a2 => ?_, fun k hk => ?_, fun k hk => ?_⟩
  · rw [← hC.I0]; exact congrFun (e 0 (by omega)).1 0
  · rw [← hC.I1]; exact congrFun (e 0 (by omega)).1 1
  · obtain ⟨k, rfl⟩ : ∃ k, a = l + k := ⟨a - l, by omega⟩
    exact e k (by omega)
  · obtain ⟨h1, h2, h3, h4, h5, h6⟩ := hC.wd hk
    exact ⟨h1, h2, by rw [(e 6 (by omega)).1, h3], by rw [(e 7 (by omega)).1, h4], by rw [(e 8 (by omega)).1, h5], by rw [(e 9 (by omega)).1, h6]⟩
  · rw [(e 10 (by omega)).1, hC.th hk]
theorem zCP.fr {G1 : g_G} {X : Nat → Prop} (hP : zCP P A G) (f : zFr X G G1) (hX : ∀ s, s < zN P → ¬ X (A s)) : zCP P A G1 := by
  refine ⟨hP.1, hP.2.1, fun s hs => ?_⟩
  obtain ⟨h1, h2, h3, h4⟩ := hP.2.2 s hs
  rw [f.cl, f.I (hX s hs), f.R (hX s hs)]
  exact ⟨h1, h2, h3, h4⟩
theorem zb_and (b : Bool) : zb b &&& 1 = zb b := by cases b <;> decide
theorem zadr_ok (hP : zCP P A G) (s : Nat) : (zadr P A s).all (fun b => gasg 122 (gcl G b)) = true := by
  unfold zadr
  by_cases c : s < zN P
  · rw [if_pos c]
    obtain ⟨h1, -⟩ := hP.2.2 s c
    have : gcl G (A s) = 11 ∨ gcl G (A s) = 12 ∨ gcl G (A s) = 13 ∨ gcl G (A s) = 14 ∨ gcl G (A s) = 15 ∨ gcl G (A s) = 16 := by omega
    show gasg 122 (gcl G (A s)) = true
    rcases this with h | h | h | h | h | h <;> rw [h] <;> rfl
  · rw [if_neg c]
    rfl
theorem zc_copy_b115 {l' : Nat} {G1 : g_G} (hC : zCL P A G1 l' n S T) (hL : zLS G1 l) (hB : gB E ≤ l) (hj : l + 10 < l' ∨ l' + 10 < l) (h1 : gI G1 l 1 = Int32.ofNat (sm S)) : ∀ d f i G2, sm S - i = d → i ≤ sm S → d < f → zFr (fun a => l + 6 ≤ a ∧ a ≤ l + 10) G1 G2 → (∀ c, 6 ≤ c → c ≤ 10 → ∀ j, j < i → gI G2 (l + c) j = gI G1 (l' + c) j) →
    ∃ G3, fX3_copy_b115 E f l (some l') (Int32.ofNat i) G2 = some G3 ∧ zFr (fun a => l + 6 ≤ a ∧ a ≤ l + 10) G1 G3 ∧ ∀ c, 6 ≤ c → c ≤ 10 → ∀ j, j < sm S → gI G3 (l + c) j = gI G1 (l' + c) j
  | d, f, i, G2, hd, hi, hf, hF, hW => by
    obtain ⟨f, rfl⟩ := z_suc hf
    have hL2 : zLS G2 l := hL.fr hF (hF.R (by omega))
    have hL2' : zLS G2 l' := hC.1.fr hF (hF.R (by omega))
    have hm := hC.m3
    have e1 : gI G2 l 1 = Int32.ofNat (sm S) := by rw [hF.I (by omega), h1]
    rw [fX3_copy_b115]
    simp only [↓zl_rI, ↓zl_r3, ↓zl_r4, ↓zl_r5, ↓zl_r6, ↓zl_r7, ↓zl_r8, ↓zl_r9, ↓zl_r10, ↓zl_r11, ↓zl_r12, ↓zl_chk, ↓zl_a1, ↓zl_a2, ↓zl_a3, ↓zl_a4, ↓zl_a5, ↓zl_a6, ↓zl_a7, ↓zl_a8, ↓zl_a9, ↓zl_a10, zLS_I, hL2, e1]
    cases d with
    | zero =>
      obtain rfl : i = sm S := by omega
      exact ⟨G2, by rw [if_pos (zi_le (by omega) (by omega))], hF, hW⟩
    | succ d =>
      have i3 : i < 320 := by omega
      rw [if_neg (zi_nle (by omega) (by omega))]
      simp only [zc_put hL2 hL2' hB (Or.inr hj) i3 i3, Option.bind_some, zi_inc]
      refine zc_copy_b115 hC hL hB hj h1 d f (i + 1) _ (by omega) (by omega) (by omega) (hF.trans (zP5_fr fun q h1 h2 => ⟨h1, h2⟩)) fun c c1 c2 j hj2 => ?_
      rw [zP5_I]
      have : c = 6 ∨ c = 7 ∨ c = 8 ∨ c = 9 ∨ c = 10 := by omega
      have eI : ∀ k, k ≤ 10 → gI G2 (l' + k) i = gI G1 (l' + k) i := fun k hk => congrFun (hF.I (by omega)) i
      by_cases q : j = i
      · subst q
        rcases this with rfl | rfl | rfl | rfl | rfl <;> simp [eI]
      · have q2 := hW c c1 c2 j (by omega)
        simp [q, q2]
theorem zc_copy_b76 {l' : Nat} {G1 : g_G} (hC : zCL P A G1 l' n S T) (hL : zLS G1 l) (hB : gB E ≤ l) (hj : l + 10 < l' ∨ l' + 10 < l) {h : Nat} (hh : h < n) (K : Nat → Option Nat → Int32 → g_G → Option g_G) : ∀ d f i G2, 4 - i = d → i ≤ 4 → d < f → zFr (fun a => a = l + 3) G1 G2 → (∀ q, gI G2 (l + 3) q = if 4 * h ≤ q ∧ q < 4 * h + i then hvr (sh S h) (q - 4 * h) else gI G1 (l + 3) q) →
    ∃ G3, fX3_copy_b76 E K f l (some l') (Int32.ofNat h) (Int32.ofNat i) G2 = K l (some l') (Int32.ofNat (h + 1)) G3 ∧ zFr (fun a => a = l + 3) G1 G3 ∧ ∀ q, gI G3 (l + 3) q = if 4 * h ≤ q ∧ q < 4 * h + 4 then hvr (sh S h) (q - 4 * h) else gI G1 (l + 3) q
  | d, f, i, G2, hd, hi, hf, hF, hW => by
    obtain ⟨f, rfl⟩ := z_suc hf
    have hL2 : zLS G2 l := hL.fr hF (hF.R (by omega))
    have hL2' : zLS G2 l' := hC.1.fr hF (hF.R (by omega))
    have hn := hC.n8
    rw [fX3_copy_b76]
    cases d with
    | zero =>
      obtain rfl : i = 4 := by omega
      exact ⟨G2, by rw [if_pos (show (4 : Int32) ≤ Int32.ofNat 4 from Int32.le_refl _), zi_inc], hF, hW⟩
    | succ d =>
      have i3 : 4 * h + i < 32 := by omega
      rw [if_neg (show ¬ (4 : Int32) ≤ Int32.ofNat i from zi_nle (a := 4) (by omega) (by omega))]
      have e : gI G2 (l' + 3) (4 * h + i) = hvr (sh S h) i := by rw [hF.I (by omega), (hC.hd hh).2.2.1 i (by omega)]
      simp only [↓zl_rI, ↓zl_r3, ↓zl_r4, ↓zl_r5, ↓zl_r6, ↓zl_r7, ↓zl_r8, ↓zl_r9, ↓zl_r10, ↓zl_r11, ↓zl_r12, ↓zl_chk, ↓zl_a1, ↓zl_a2, ↓zl_a3, ↓zl_a4, ↓zl_a5, ↓zl_a6, ↓zl_a7, ↓zl_a8, ↓zl_a9, ↓zl_a10, zLS_I, ↓zl_pI, ↓zl_s1, ↓zl_s2, ↓zl_s3, ↓zl_s4, ↓zl_s5, ↓zl_s6, ↓zl_s7, ↓zl_s8, ↓zl_s9, ↓zl_s10, hL2, hL2', hB, i3, zi_4, e, zi_inc]
      refine zc_copy_b76 hC hL hB hj hh K d f (i + 1) _ (by omega) (by omega) (by omega) (hF.wI2 rfl) fun q => ?_
      rw [zq_II]
      by_cases c : q = 4 * h + i
      · rw [if_pos ⟨rfl, c⟩, if_pos (by omega), c]
        congr 1
        omega
      · rw [if_neg (fun x => c x.2), hW]
        by_cases c2 : 4 * h ≤ q ∧ q < 4 * h + i
        · rw [if_pos c2, if_pos (by omega)]
        · rw [if_neg c2, if_neg (by omega)]
theorem zc_copy_b18 {l' : Nat} (hC : zCL P A G l' n S T) (hP : zCP P A G) (hB : gB E ≤ l) (hj : l + 10 < l' ∨ l' + 10 < l) : ∀ d f i G1, n - i = d → i ≤ n → d < f → zFr (zIn l) G G1 → zLS G1 l → gI G1 l 0 = Int32.ofNat n → gI G1 l 1 = Int32.ofNat (sm S) → (∀ h, h < i → zHr P A G1 l h (sh S h)) →
    ∃ G2, fX3_copy_b18 E f l (some l') (Int32.ofNat i) G1 = some G2 ∧ zFr (zIn l) G G2 ∧ zCL P A G2 l n S T
  | d, f, i, G1, hd, hi, hf, hF, hL1, h0, h1, hH => by
    obtain ⟨f, rfl⟩ := z_suc hf
    have hC1 : zCL P A G1 l' n S T := hC.fr hF (fun a ha q => by unfold zIn at *; omega)
    have hL1' := hC1.1
    have hn := hC.n8
    have hm := hC.m3
    rw [fX3_copy_b18]
    simp only [↓zl_rI, ↓zl_r3, ↓zl_r4, ↓zl_r5, ↓zl_r6, ↓zl_r7, ↓zl_r8, ↓zl_r9, ↓zl_r10, ↓zl_r11, ↓zl_r12, ↓zl_chk, ↓zl_a1, ↓zl_a2, ↓zl_a3, ↓zl_a4, ↓zl_a5, ↓zl_a6, ↓zl_a7, ↓zl_a8, ↓zl_a9, ↓zl_a10, zLS_I, ↓zl_pI, ↓zl_s1, ↓zl_s2, ↓zl_s3, ↓zl_s4, ↓zl_s5, ↓zl_s6, ↓zl_s7, ↓zl_s8, ↓zl_s9, ↓zl_s10, hL1, hL1', hB, h0]
    cases d with
    | zero =>
      obtain rfl : i = n := by omega
      rw [if_pos (zi_le (by omega) (by omega))]
      obtain ⟨G3, q1, q2, q3⟩ := zc_copy_b115 (E := E) hC1 hL1 hB hj h1 (sm S) gFU 0 G1 (by omega) (by omega) (z_F _ (by omega)) (zFr.refl _ _) (fun c c1 c2 j hj => absurd hj (by omega))
      refine ⟨G3, q1, hF.trans (q2.mono fun a ha => ⟨by omega, by omega⟩), hL1.fr q2 (q2.R (by omega)), hn, hm, by rw [q2.I (by omega), h0], by rw [q2.I (by omega), h1], fun h hh => (hH h hh).fr fun a a1 a2 => ⟨q2.I (by omega), q2.R (by omega)⟩, fun k hk => ?_, fun k hk => ?_⟩
      · obtain ⟨w1, w2, w3, w4, w5, w6⟩ := hC1.wd hk
        exact ⟨w1, w2, by rw [q3 6 (by omega) (by omega) k hk, w3], by rw [q3 7 (by omega) (by omega) k hk, w4], by rw [q3 8 (by omega) (by omega) k hk, w5], by rw [q3 9 (by omega) (by omega) k hk, w6]⟩
      · rw [q3 10 (by omega) (by omega) k hk, hC1.th hk]
    | succ d =>
      have hi2 : i < n := by omega
      have i8 : i < 8 := by omega
      obtain ⟨d1, d2, d3, d4, d5⟩ := hC1.hd hi2
      rw [if_neg (zi_nle (by omega) (by omega))]
      have hP1 : zCP P A G1 → True := fun _ => trivial
      have ok : (zadr P A (hat (sh S i))).all (fun b => gasg 122 (gcl G1 b)) = true := by rw [hF.cl]; exact zadr_ok hP _
      rw [zl_a1 hL1' i8, d1, zl_s1 hL1 hB i8 ok]
      have hLa : zLS (gsR G1 (l + 1) i (zadr P A (hat (sh S i)))) l := zLS_R hL1 (by omega)
      have hLa' : zLS (gsR G1 (l + 1) i (zadr P A (hat (sh S i)))) l' := zLS_R hL1' (by omega)
      have r2 : ∀ a k v, gI (gsR G1 a k v) (l' + 2) i = zb (hst (sh S i)) := fun _ _ _ => d2
      simp only [↓zl_rI, ↓zl_r3, ↓zl_r4, ↓zl_r5, ↓zl_r6, ↓zl_r7, ↓zl_r8, ↓zl_r9, ↓zl_r10, ↓zl_r11, ↓zl_r12, ↓zl_chk, ↓zl_a1, ↓zl_a2, ↓zl_a3, ↓zl_a4, ↓zl_a5, ↓zl_a6, ↓zl_a7, ↓zl_a8, ↓zl_a9, ↓zl_a10, zLS_I, ↓zl_pI, ↓zl_s1, ↓zl_s2, ↓zl_s3, ↓zl_s4, ↓zl_s5, ↓zl_s6, ↓zl_s7, ↓zl_s8, ↓zl_s9, ↓zl_s10, hLa, hLa', hB, i8, r2, zb_and]
      have r4 : ∀ k v a w, gI (gsI (gsR G1 a k w) (l + 2) i v) (l' + 4) i = hfr (sh S i) := fun _ _ _ _ => by rw [zq_II, if_neg (by omega)]; exact d4
      simp only [r4]
      have r5 : ∀ k v a w u, gI (gsI (gsI (gsR G1 a k w) (l + 2) i v) (l + 4) i u) (l' + 5) i = htd (sh S i) := fun _ _ _ _ _ => by rw [zq_II, if_neg (by omega), zq_II, if_neg (by omega)]; exact d5
      simp only [r5]
      generalize hG2 : gsI (gsI (gsI (gsR G1 (l + 1) i (zadr P A (hat (sh S i)))) (l + 2) i (zb (hst (sh S i)))) (l + 4) i (hfr (sh S i))) (l + 5) i (htd (sh S i)) = G2
      have hF2 : zFr (zIn l) G1 G2 := by
        subst hG2
        exact (((zFr.wR ⟨by omega, by omega⟩).wI2 ⟨by omega, by omega⟩).wI2 ⟨by omega, by omega⟩).wI2 ⟨by omega, by omega⟩
      have hL2 : zLS G2 l := by
        subst hG2
        exact hLa
      have hC2 : zCL P A G2 l' n S T := hC1.fr hF2 (fun a ha q => by unfold zIn at *; omega)
      obtain ⟨G3, q1, q2, q3⟩ := zc_copy_b76 (E := E) hC2 hL2 hB hj hi2 (fX3_copy_b18 E f) 4 gFU 0 G2 (by omega) (by omega) (z_F _ (by omega)) (zFr.refl _ _) (fun q => by rw [if_neg (by omega)])
      have e0 : ∀ k, gI G2 l k = gI G1 l k := fun k => by
        subst hG2
        rw [zq_II, if_neg (by omega), zq_II, if_neg (by omega), zq_II, if_neg (by omega)]
        rfl
      obtain ⟨G4, t1, t2, t3⟩ := zc_copy_b18 hC hP hB hj d f (i + 1) G3 (by omega) (by omega) (by omega) (hF.trans (hF2.trans (q2.mono fun a ha => ⟨by omega, by omega⟩))) (hL2.fr q2 (q2.R (by omega))) (by rw [q2.I (by omega), e0, h0]) (by rw [q2.I (by omega), e0, h1]) (fun h hh => by
        have k1 : gR G3 (l + 1) h = if h = i then zadr P A (hat (sh S i)) else gR G1 (l + 1) h := by
          rw [q2.R (by omega)]
          subst hG2
          show gR (gsR G1 (l + 1) i _) (l + 1) h = _
          rw [zq_RR]
          simp
        have k2 : gI G3 (l + 2) h = if h = i then zb (hst (sh S i)) else gI G1 (l + 2) h := by
          rw [q2.I (by omega)]
          subst hG2
          rw [zq_II, if_neg (by omega), zq_II, if_neg (by omega), zq_II]
          simp [zq_IR]
        have k4 : gI G3 (l + 4) h = if h = i then hfr (sh S i) else gI G1 (l + 4) h := by
          rw [q2.I (by omega)]
          subst hG2
          rw [zq_II, if_neg (by omega), zq_II, zq_II, if_neg (show ¬ (l + 4 = l + 2 ∧ h = i) by omega)]
          simp [zq_IR]
        have k5 : gI G3 (l + 5) h = if h = i then htd (sh S i) else gI G1 (l + 5) h := by
          rw [q2.I (by omega)]
          subst hG2
          rw [zq_II, zq_II, if_neg (show ¬ (l + 5 = l + 4 ∧ h = i) by omega), zq_II, if_neg (show ¬ (l + 5 = l + 2 ∧ h = i) by omega)]
          simp [zq_IR]
        have k3 : ∀ k, k < 4 → gI G3 (l + 3) (4 * h + k) = if h = i then hvr (sh S i) k else gI G1 (l + 3) (4 * h + k) := fun k hk => by
          have e : gI G2 (l + 3) (4 * h + k) = gI G1 (l + 3) (4 * h + k) := by
            subst hG2
            rw [zq_II, if_neg (by omega), zq_II, if_neg (by omega), zq_II, if_neg (by omega)]
            rfl
          rw [q3, e]
          by_cases c : h = i
          · rw [if_pos (by omega), if_pos c]
            congr 1
            omega
          · rw [if_neg (by omega), if_neg c]
        by_cases c : h = i
        · subst c
          exact ⟨by rw [k1, if_pos rfl], by rw [k2, if_pos rfl], fun k hk => by rw [k3 k hk, if_pos rfl], by rw [k4, if_pos rfl], by rw [k5, if_pos rfl]⟩
        · obtain ⟨g1, g2, g3, g4, g5⟩ := hH h (by omega)
          exact ⟨by rw [k1, if_neg c, g1], by rw [k2, if_neg c, g2], fun k hk => by rw [k3 k hk, if_neg c, g3 k hk], by rw [k4, if_neg c, g4], by rw [k5, if_neg c, g5]⟩)
      exact ⟨G4, q1.trans t1, t2, t3⟩
theorem zc_copy {l' : Nat} (hC : zCL P A G l' n S T) (hP : zCP P A G) (hL : zLS G l) (hB : gB E ≤ l) (hj : l + 10 < l' ∨ l' + 10 < l) :
    ∃ G1, fX3_copy E l (some l') G = some G1 ∧ zFr (zIn l) G G1 ∧ zCL P A G1 l n S T := by
  have hL' := hC.1
  rw [fX3_copy]
  have e1 : gI (gsI G l 0 (Int32.ofNat n)) l' 1 = Int32.ofNat (sm S) := by rw [zq_II, if_neg (by omega), hC.I1]
  simp only [↓zl_rI, ↓zl_r3, ↓zl_r4, ↓zl_r5, ↓zl_r6, ↓zl_r7, ↓zl_r8, ↓zl_r9, ↓zl_r10, ↓zl_r11, ↓zl_r12, ↓zl_chk, ↓zl_a1, ↓zl_a2, ↓zl_a3, ↓zl_a4, ↓zl_a5, ↓zl_a6, ↓zl_a7, ↓zl_a8, ↓zl_a9, ↓zl_a10, zLS_I, ↓zl_pI, ↓zl_s1, ↓zl_s2, ↓zl_s3, ↓zl_s4, ↓zl_s5, ↓zl_s6, ↓zl_s7, ↓zl_s8, ↓zl_s9, ↓zl_s10, hL, hL', hB, hC.I0, e1]
  exact zc_copy_b18 hC hP hB hj n gFU 0 _ (by omega) (by omega) (z_F _ (by have := hC.n8; omega)) ((zFr.wI ⟨by omega, by omega⟩).wI2 ⟨by omega, by omega⟩) hL (by rw [zq_II, if_neg (by omega), zq_II, if_pos ⟨rfl, rfl⟩]) (by rw [zq_II, if_pos ⟨rfl, rfl⟩]) (fun h hh => absurd hh (by omega))
end Z7
