/-! THE PLAIN LAW, 13: the same of a Life of which some hands' places are not known (laid by mk13.py out of parts 9 and 10) -/
set_option maxRecDepth 100000
def zHb (Q : Nat → Prop) (P : zPr) (A : Nat → Nat) (G : g_G) (l h : Nat) (H : zH) : Prop := (Q h → gR G (l + 1) h = zadr P A (hat H)) ∧ gI G (l + 2) h = zb (hst H) ∧ (∀ k, k < 4 → gI G (l + 3) (4 * h + k) = hvr H k) ∧ gI G (l + 4) h = hfr H ∧ gI G (l + 5) h = htd H
def zCB (Q : Nat → Prop) (P : zPr) (A : Nat → Nat) (G : g_G) (l n : Nat) (S : zS) (T : Nat → Int32) : Prop :=
  zLS G l ∧ n ≤ 8 ∧ sm S ≤ 320 ∧ gI G l 0 = Int32.ofNat n ∧ gI G l 1 = Int32.ofNat (sm S) ∧ (∀ h, h < n → zHb Q P A G l h (sh S h)) ∧ (∀ k, k < sm S → zWr G l k (sw S k)) ∧ ∀ k, k < sm S → gI G (l + 10) k = T k
section Z13
variable {P : zPr} {A : Nat → Nat} {E : g_E} {G : g_G} {l n : Nat} {S : zS} {T : Nat → Int32} {R : Nat → Prop} {x : Nat} {o : Nat → Bool} {Q : Nat → Prop}
theorem zCB.hd (h : zCB Q P A G l n S T) {j : Nat} (hj : j < n) : zHb Q P A G l j (sh S j) := h.2.2.2.2.2.1 j hj
theorem zCB.wd (h : zCB Q P A G l n S T) {j : Nat} (hj : j < sm S) : zWr G l j (sw S j) := h.2.2.2.2.2.2.1 j hj
theorem zCB.th (h : zCB Q P A G l n S T) {j : Nat} (hj : j < sm S) : gI G (l + 10) j = T j := h.2.2.2.2.2.2.2 j hj
theorem zCB.n8 (h : zCB Q P A G l n S T) : n ≤ 8 := h.2.1
theorem zCB.m3 (h : zCB Q P A G l n S T) : sm S ≤ 320 := h.2.2.1
theorem zCB.I0 (h : zCB Q P A G l n S T) : gI G l 0 = Int32.ofNat n := h.2.2.2.1
theorem zCB.I1 (h : zCB Q P A G l n S T) : gI G l 1 = Int32.ofNat (sm S) := h.2.2.2.2.1
theorem zd_leaf {R : Nat → Prop} {a h : Nat} {ev : zEv} (hC : zCB Q P A G l n S T) (hh : h < n) (hV : zLeaf R G a ev) {o : Option (Int32 × g_G)} :
    (if gcl G a = 8 then fX10_value E a (some l) (Int32.ofNat h) G else if gcl G a = 10 then fX12_value E a (some l) (Int32.ofNat h) G else o) = some (ev (hvr (sh S h)) (Int32.ofNat h) (Int32.ofNat n) (hfr (sh S h)), G) := by
  have hL := hC.1
  have h8 : h < 8 := by have := hC.n8; omega
  rcases hV with ⟨-, ⟨e1, e2⟩ | ⟨e1, k, hk, e3, e2⟩⟩
  · rw [if_pos e1, e2, fX10_value, zp_rI ⟨Nat.le_of_eq e1.symm, Nat.le_of_eq e1⟩]
  · have kk : (10 : Nat) ≤ gcl G a ∧ gcl G a ≤ 10 := by omega
    rw [if_neg (by omega), if_pos e1, e2]
    simp only [fX12_value, zp_rI kk, e3, ↓zl_rI, ↓zl_r3, ↓zl_r4, ↓zl_r5, ↓zl_r6, ↓zl_r7, ↓zl_r8, ↓zl_r9, ↓zl_r10, ↓zl_r11, ↓zl_r12, ↓zl_chk, ↓zl_a1, ↓zl_a2, ↓zl_a3, ↓zl_a4, ↓zl_a5, ↓zl_a6, ↓zl_a7, ↓zl_a8, ↓zl_a9, ↓zl_a10, zLS_I, hL, h8]
    unfold zval
    by_cases c : k < 4
    · rw [if_neg (show ¬ (4 : Int32) ≤ Int32.ofNat k from zi_nle (a := 4) c (by omega)), if_pos c]
      have hi : 4 * h + k < 32 := by omega
      simp only [zi_4, ↓zl_rI, ↓zl_r3, ↓zl_r4, ↓zl_r5, ↓zl_r6, ↓zl_r7, ↓zl_r8, ↓zl_r9, ↓zl_r10, ↓zl_r11, ↓zl_r12, ↓zl_chk, ↓zl_a1, ↓zl_a2, ↓zl_a3, ↓zl_a4, ↓zl_a5, ↓zl_a6, ↓zl_a7, ↓zl_a8, ↓zl_a9, ↓zl_a10, zLS_I, hL, hi, (hC.hd hh).2.2.1 k c]
    · rw [if_pos (show (4 : Int32) ≤ Int32.ofNat k from zi_le (a := 4) (by omega) (by omega)), if_neg c]
      have h456 : k = 4 ∨ k = 5 ∨ k = 6 := by omega
      rcases h456 with rfl | rfl | rfl
      · rfl
      · simp only [hC.I0]
        rfl
      · simp only [(hC.hd hh).2.2.2.1]
        rfl
theorem zd_val {R : Nat → Prop} {h : Nat} (hC : zCB Q P A G l n S T) (hh : h < n) : ∀ {d D a : Nat} {ev : zEv}, zVX R G d a ev → d ≤ D → fI_value E D (some a) (some l) (Int32.ofNat h) G = some (ev (hvr (sh S h)) (Int32.ofNat h) (Int32.ofNat n) (hfr (sh S h)), G)
  | 0, 0, a, ev, hV, _ => by
    unfold fI_value
    rw [Option.bind_some]
    exact zd_leaf hC hh hV
  | 0, D + 1, a, ev, hV, _ => by
    unfold fI_value
    rw [Option.bind_some]
    exact zd_leaf hC hh hV
  | d + 1, 0, a, ev, hV, hd => absurd hd (by omega)
  | d + 1, D + 1, a, ev, hV, hd => by
    unfold fI_value
    rw [Option.bind_some]
    rcases hV with hV | ⟨h1, h2, pl, pe, sl, se, np, evs, cs, -, r0, r1, hp, hs, hI, hc, e⟩
    · exact zd_leaf hC hh hV
    · rw [if_neg (by omega), if_neg (by omega), if_pos h2, fX11_value]
      have k9 : (9 : Nat) ≤ gcl G a ∧ gcl G a ≤ 9 := by omega
      have hI' : ∀ i, i ≤ np → ∃ b, gR G pe i = some b ∧ fI_value E D (some b) (some l) (Int32.ofNat h) G = some (evs i (hvr (sh S h)) (Int32.ofNat h) (Int32.ofNat n) (hfr (sh S h)), G) ∧ 8 ≤ gcl G b ∧ gcl G b ≤ 10 := fun i hi => by
        obtain ⟨b, b1, b2, b3⟩ := hI i hi
        exact ⟨b, b1, zd_val hC hh b2 (by omega), b3⟩
      obtain ⟨b, b1, b2, b3⟩ := hI' 0 (by omega)
      have g0 : fJ2_get E pl 0 G = some (gR G pe 0, G) := zc_get hp (i := 0) (by omega)
      simp only [zp_rR k9, r0, zp_chk hp.1, g0, Option.bind_some, b1, zp_cast b3, b2]
      rw [e]
      exact zc_val_b22 (fI := fI_value E D) (w := fun ev => ev (hvr (sh S h)) (Int32.ofNat h) (Int32.ofNat n) (hfr (sh S h))) (fun evs cs i => rfl) h2 r0 r1 hp hs hI' (fun i hi => by
        obtain ⟨b, b1, -, b3⟩ := hc i hi
        exact ⟨b, b1, b3⟩) np gFU 0 (by omega) (by omega) (z_F _ (by have := hp.2.2.2.2.1; have := hp.2.2.2.2.2; omega))
theorem zCB.up {G1 : g_G} {h : Nat} {H : zH} {Q' : Nat → Prop} (hC : zCB Q P A G l n S T) (hF : zFr (fun a => l + 1 ≤ a ∧ a ≤ l + 5) G G1) (hn : zHb Q' P A G1 l h H) (ho : ∀ j, j < n → j ≠ h → zHb Q' P A G1 l j (sh S j)) : zCB Q' P A G1 l n (zupH S h H) T := by
  refine ⟨hC.1.fr hF (hF.R (by omega)), hC.n8, hC.m3, by rw [hF.I (by omega), hC.I0], by rw [hF.I (by omega)]; exact hC.I1, fun j hj => ?_, fun k hk => ?_, fun k hk => ?_⟩
  · by_cases c : j = h
    · subst c
      rw [zup_h]
      exact hn
    · rw [zup_o c]
      exact ho j hj c
  · obtain ⟨h1, h2, h3, h4, h5, h6⟩ := hC.wd (j := k) hk
    exact ⟨h1, h2, by rw [hF.I (by omega)]; exact h3, by rw [hF.I (by omega)]; exact h4, by rw [hF.I (by omega)]; exact h5, by rw [hF.I (by omega)]; exact h6⟩
  · rw [hF.I (by omega)]
    exact hC.th hk
theorem zCB.at {h s : Nat} (hC : zCB Q P A G l n S T) (hh : h < n)   : zCB (fun j => j = h ∨ Q j) P A (gsR G (l + 1) h (zadr P A s)) l n (zupH S h (s, hst (sh S h), hvr (sh S h), hfr (sh S h), htd (sh S h))) T := by
  refine zCB.up (Q' := fun j => j = h ∨ Q j) hC (zFr.wR ⟨by omega, by omega⟩) ?_ fun j hj c => ?_
  · obtain ⟨h1, h2, h3, h4, h5⟩ := hC.hd hh
    exact ⟨fun _ => by rw [zq_RR, if_pos ⟨rfl, rfl⟩]; rfl, h2, h3, h4, h5⟩
  · obtain ⟨h1, h2, h3, h4, h5⟩ := hC.hd hj
    exact ⟨fun q => by rw [zq_RR, if_neg (by omega)]; exact h1 (q.resolve_left c), h2, h3, h4, h5⟩
theorem zCB.st {h : Nat} {b : Bool} (hC : zCB Q P A G l n S T) (hh : h < n) : zCB Q P A (gsI G (l + 2) h (zb b)) l n (zupH S h (hat (sh S h), b, hvr (sh S h), hfr (sh S h), htd (sh S h))) T := by
  refine hC.up (zFr.wI ⟨by omega, by omega⟩) ?_ fun j hj c => ?_
  · obtain ⟨h1, h2, h3, h4, h5⟩ := hC.hd hh
    exact ⟨h1, by rw [zq_II, if_pos ⟨rfl, rfl⟩]; rfl, fun k hk => by rw [zq_II, if_neg (by omega)]; exact h3 k hk, by rw [zq_II, if_neg (by omega)]; exact h4, by rw [zq_II, if_neg (by omega)]; exact h5⟩
  · obtain ⟨h1, h2, h3, h4, h5⟩ := hC.hd hj
    exact ⟨h1, by rw [zq_II, if_neg (by omega)]; exact h2, fun k hk => by rw [zq_II, if_neg (by omega)]; exact h3 k hk, by rw [zq_II, if_neg (by omega)]; exact h4, by rw [zq_II, if_neg (by omega)]; exact h5⟩
theorem zCB.vr {h k : Nat} {v : Int32} (hC : zCB Q P A G l n S T) (hh : h < n) (hk : k < 4) : zCB Q P A (gsI G (l + 3) (4 * h + k) v) l n (zupH S h (hat (sh S h), hst (sh S h), va_up (hvr (sh S h)) k v, hfr (sh S h), htd (sh S h))) T := by
  refine hC.up (zFr.wI ⟨by omega, by omega⟩) ?_ fun j hj c => ?_
  · obtain ⟨h1, h2, h3, h4, h5⟩ := hC.hd hh
    refine ⟨h1, by rw [zq_II, if_neg (by omega)]; exact h2, fun k' hk' => ?_, by rw [zq_II, if_neg (by omega)]; exact h4, by rw [zq_II, if_neg (by omega)]; exact h5⟩
    rw [zq_II]
    show _ = if k' = k then v else hvr (sh S h) k'
    by_cases c : k' = k
    · rw [if_pos (by omega), if_pos c]
    · rw [if_neg (by omega), if_neg c, h3 k' hk']
  · obtain ⟨h1, h2, h3, h4, h5⟩ := hC.hd hj
    exact ⟨h1, by rw [zq_II, if_neg (by omega)]; exact h2, fun k hk => by rw [zq_II, if_neg (by omega)]; exact h3 k hk, by rw [zq_II, if_neg (by omega)]; exact h4, by rw [zq_II, if_neg (by omega)]; exact h5⟩
theorem zCB.td {h : Nat} {v : Int32} (hC : zCB Q P A G l n S T) (hh : h < n) : zCB Q P A (gsI G (l + 5) h v) l n (zupH S h (hat (sh S h), hst (sh S h), hvr (sh S h), hfr (sh S h), v)) T := by
  refine hC.up (zFr.wI ⟨by omega, by omega⟩) ?_ fun j hj c => ?_
  · obtain ⟨h1, h2, h3, h4, h5⟩ := hC.hd hh
    exact ⟨h1, by rw [zq_II, if_neg (by omega)]; exact h2, fun k hk => by rw [zq_II, if_neg (by omega)]; exact h3 k hk, by rw [zq_II, if_neg (by omega)]; exact h4, by rw [zq_II, if_pos ⟨rfl, rfl⟩]; rfl⟩
  · obtain ⟨h1, h2, h3, h4, h5⟩ := hC.hd hj
    exact ⟨h1, by rw [zq_II, if_neg (by omega)]; exact h2, fun k hk => by rw [zq_II, if_neg (by omega)]; exact h3 k hk, by rw [zq_II, if_neg (by omega)]; exact h4, by rw [zq_II, if_neg (by omega)]; exact h5⟩
theorem zd_to {h s : Nat} (hC : zCB Q P A G l n S T) (hX : zCX R P A G) (hh : h < n) (hs : s < zN P) (hk : zkd P s ≤ 2) : fX9_to E (A s) (some l) (Int32.ofNat h) G = some (zev P n h (sh S h) s 0, G) := by
  obtain ⟨q1, q2, m, t, w, q3, q4, q5, q6, q7, q8⟩ := (hX.2 s hs).2.1 hk
  have k1 : (15 : Nat) ≤ gcl G (A s) ∧ gcl G (A s) ≤ 15 := by omega
  simp only [fX9_to, zp_rR k1, q4, zd_val hC hh q7 (show 24 ≤ gDP from Nat.le_refl _), Option.bind_some]
  rfl
theorem zd_of {h s : Nat} (hC : zCB Q P A G l n S T) (hX : zCX R P A G) (hh : h < n) (hs : s < zN P) (hk : zkd P s = 3) : fX13_of E (A s) (some l) (Int32.ofNat h) G = some (zev P n h (sh S h) s 0, G) := by
  obtain ⟨q1, q2, q3, m, q4, q5⟩ := (hX.2 s hs).2.2.1 (Or.inl hk)
  obtain ⟨t, q6, q7⟩ := (hX.2 s hs).2.2.2.1 hk
  have k1 : (16 : Nat) ≤ gcl G (A s) ∧ gcl G (A s) ≤ 16 := by omega
  simp only [fX13_of, zp_rR k1, q6, reduceCtorEq, not_false_eq_true, ↓reduceIte, zd_val hC hh q7 (show 24 ≤ gDP from Nat.le_refl _), Option.bind_some]
  rfl
theorem zd_isO {h : Nat} {v : Int32} (hC : zCB Q P A G l n S T) : fX7_isOther E (some l) (Int32.ofNat h) v G = some (zb (zisO n h v), G) := by
  have hL := hC.1
  simp only [fX7_isOther, ↓zl_rI, ↓zl_r3, ↓zl_r4, ↓zl_r5, ↓zl_r6, ↓zl_r7, ↓zl_r8, ↓zl_r9, ↓zl_r10, ↓zl_r11, ↓zl_r12, ↓zl_chk, ↓zl_a1, ↓zl_a2, ↓zl_a3, ↓zl_a4, ↓zl_a5, ↓zl_a6, ↓zl_a7, ↓zl_a8, ↓zl_a9, ↓zl_a10, zLS_I, hL, hC.I0, true_or, or_true, ↓reduceIte]
  unfold zisO
  by_cases c : v < 0
  · rw [if_pos c]
    have : ¬ 0 ≤ v := by rw [Int32.not_le]; exact c
    simp [this, zb]
  · rw [if_neg c]
    have c1 : 0 ≤ v := by rw [← Int32.not_lt]; exact c
    by_cases c2 : Int32.ofNat n ≤ v
    · rw [if_pos c2]
      have : ¬ v < Int32.ofNat n := by rw [Int32.not_lt]; exact c2
      simp [this, zb]
    · rw [if_neg c2]
      have c3 : v < Int32.ofNat n := by rw [← Int32.not_le]; exact c2
      by_cases c4 : v = Int32.ofNat h
      · rw [if_pos c4]
        simp [c4, zb]
      · rw [if_neg c4]
        simp [c1, c3, c4, zb]
theorem zd_stay {h s : Nat} (hC : zCB Q P A G l n S T) (hX : zCX R P A G) (hB : gB E ≤ l) (hh : h < n) (hs : s < zN P) (hst0 : hst (sh S h) = false) (hk : zkd P s ≤ 7) :
    ∃ G1, fV_comes E (some (A s)) (some l) (Int32.ofNat h) G = some (some (A s), G1) ∧ zFr (zIn l) G G1 ∧ zCB Q P A G1 l n (zupH S h (hat (sh S h), decide (zkd P s ≤ 3) && !zisO n h (zev P n h (sh S h) s 0), hvr (sh S h), hfr (sh S h), htd (sh S h))) T := by
  have hL := hC.1
  have h8 : h < 8 := by have := hC.n8; omega
  have hS := hX.2 s hs
  unfold fV_comes
  rw [Option.bind_some]
  by_cases c2 : zkd P s ≤ 2
  · have k := (hS.2.1 c2).1
    rw [if_neg (by omega), if_neg (by omega), if_neg (by omega), if_neg (by omega), if_pos k]
    refine ⟨gsI G (l + 2) h (zb (!zisO n h (zev P n h (sh S h) s 0))), ?_, zFr.wI ⟨by omega, by omega⟩, ?_⟩
    · simp only [fX9_comes, ↓zl_rI, ↓zl_r3, ↓zl_r4, ↓zl_r5, ↓zl_r6, ↓zl_r7, ↓zl_r8, ↓zl_r9, ↓zl_r10, ↓zl_r11, ↓zl_r12, ↓zl_chk, ↓zl_a1, ↓zl_a2, ↓zl_a3, ↓zl_a4, ↓zl_a5, ↓zl_a6, ↓zl_a7, ↓zl_a8, ↓zl_a9, ↓zl_a10, zLS_I, ↓zl_pI, ↓zl_s1, ↓zl_s2, ↓zl_s3, ↓zl_s4, ↓zl_s5, ↓zl_s6, ↓zl_s7, ↓zl_s8, ↓zl_s9, ↓zl_s10, hL, hB, h8, zp_chk k, zd_to hC hX hh hs c2, zd_isO hC, Option.bind_some, fX9_comes_b24, fX7_comes, zb_n0]
      cases c : zisO n h (zev P n h (sh S h) s 0)
      · rw [if_neg (by decide)]
        have k' : gcl (gsI G (l + 2) h (1 &&& 1)) (A s) = 15 := k
        simp only [zp_chk k', Option.bind_some]
        rfl
      · rw [if_pos rfl]
        have k' : gcl (gsI G (l + 2) h (0 &&& 1)) (A s) = 15 := k
        simp only [zp_chk k', Option.bind_some]
        rfl
    · have e : (decide (zkd P s ≤ 3) && !zisO n h (zev P n h (sh S h) s 0)) = !zisO n h (zev P n h (sh S h) s 0) := by
        rw [decide_eq_true (show zkd P s ≤ 3 by omega), Bool.true_and]
      rw [e]
      exact hC.st hh
  · by_cases c3 : zkd P s = 3
    · have k := (hS.2.2.1 (Or.inl c3)).1
      obtain ⟨t, q6, q7⟩ := hS.2.2.2.1 c3
      have k1 : (16 : Nat) ≤ gcl G (A s) ∧ gcl G (A s) ≤ 16 := by omega
      rw [if_neg (by omega), if_neg (by omega), if_neg (by omega), if_neg (by omega), if_neg (by omega), if_pos k]
      refine ⟨gsI G (l + 2) h (zb (!zisO n h (zev P n h (sh S h) s 0))), ?_, zFr.wI ⟨by omega, by omega⟩, ?_⟩
      · simp only [fX13_comes, ↓zl_rI, ↓zl_r3, ↓zl_r4, ↓zl_r5, ↓zl_r6, ↓zl_r7, ↓zl_r8, ↓zl_r9, ↓zl_r10, ↓zl_r11, ↓zl_r12, ↓zl_chk, ↓zl_a1, ↓zl_a2, ↓zl_a3, ↓zl_a4, ↓zl_a5, ↓zl_a6, ↓zl_a7, ↓zl_a8, ↓zl_a9, ↓zl_a10, zLS_I, ↓zl_pI, ↓zl_s1, ↓zl_s2, ↓zl_s3, ↓zl_s4, ↓zl_s5, ↓zl_s6, ↓zl_s7, ↓zl_s8, ↓zl_s9, ↓zl_s10, hL, hB, h8, zp_chk k, zp_rR k1, q6, reduceCtorEq, ↓reduceIte, zd_of hC hX hh hs c3, zd_isO hC, Option.bind_some, fX13_comes_b30, fX13_comes_b31, fX7_comes, zb_n0]
        cases c : zisO n h (zev P n h (sh S h) s 0)
        · rw [if_neg (by decide)]
          have k' : gcl (gsI G (l + 2) h (1 &&& 1)) (A s) = 16 := k
          simp only [zp_chk k', Option.bind_some]
          rfl
        · rw [if_pos rfl]
          have k' : gcl (gsI G (l + 2) h (0 &&& 1)) (A s) = 16 := k
          simp only [zp_chk k', Option.bind_some]
          rfl
      · have e : (decide (zkd P s ≤ 3) && !zisO n h (zev P n h (sh S h) s 0)) = !zisO n h (zev P n h (sh S h) s 0) := by
          rw [decide_eq_true (show zkd P s ≤ 3 by omega), Bool.true_and]
        rw [e]
        exact hC.st hh
    · have e : (decide (zkd P s ≤ 3) && !zisO n h (zev P n h (sh S h) s 0)) = false := by
        rw [decide_eq_false (show ¬ zkd P s ≤ 3 by omega), Bool.false_and]
      rw [e]
      by_cases c4 : zkd P s = 4
      · have k := (hS.2.2.1 (Or.inr c4)).1
        have q6 := hS.2.2.2.2.1 c4
        have k1 : (16 : Nat) ≤ gcl G (A s) ∧ gcl G (A s) ≤ 16 := by omega
        rw [if_neg (by omega), if_neg (by omega), if_neg (by omega), if_neg (by omega), if_neg (by omega), if_pos k]
        refine ⟨gsI G (l + 2) h (zb false), ?_, zFr.wI ⟨by omega, by omega⟩, hC.st hh⟩
        simp only [fX13_comes, ↓zl_rI, ↓zl_r3, ↓zl_r4, ↓zl_r5, ↓zl_r6, ↓zl_r7, ↓zl_r8, ↓zl_r9, ↓zl_r10, ↓zl_r11, ↓zl_r12, ↓zl_chk, ↓zl_a1, ↓zl_a2, ↓zl_a3, ↓zl_a4, ↓zl_a5, ↓zl_a6, ↓zl_a7, ↓zl_a8, ↓zl_a9, ↓zl_a10, zLS_I, ↓zl_pI, ↓zl_s1, ↓zl_s2, ↓zl_s3, ↓zl_s4, ↓zl_s5, ↓zl_s6, ↓zl_s7, ↓zl_s8, ↓zl_s9, ↓zl_s10, hL, hB, h8, zp_rR k1, q6, ↓reduceIte, fX13_comes_b30, fX13_comes_b31, fX7_comes, Option.bind_some]
        have k' : gcl (gsI G (l + 2) h (0 &&& 1)) (A s) = 16 := k
        simp only [zp_chk k', Option.bind_some]
        rfl
      · have k := hS.2.2.2.2.2.1 (by omega)
        rw [if_pos k]
        refine ⟨G, rfl, zFr.refl _ _, ?_⟩
        rw [← hst0, show ((hat (sh S h), hst (sh S h), hvr (sh S h), hfr (sh S h), htd (sh S h)) : zH) = sh S h from rfl, zup_self]
        exact hC
theorem zd_goes_b67 {h s : Nat} (hC : zCB Q P A G l n S T) (hX : zCX R P A G) (hB : gB E ≤ l) (hh : h < n) : fX1_goes_b67 E (some l) (Int32.ofNat h) (zadr P A s) G = some (gsR G (l + 1) h (zadr P A s)) := by
  have hL := hC.1
  have h8 : h < 8 := by have := hC.n8; omega
  have ok := zadr_ok hX.1 s
  simp only [fX1_goes_b67, ↓zl_rI, ↓zl_r3, ↓zl_r4, ↓zl_r5, ↓zl_r6, ↓zl_r7, ↓zl_r8, ↓zl_r9, ↓zl_r10, ↓zl_r11, ↓zl_r12, ↓zl_chk, ↓zl_a1, ↓zl_a2, ↓zl_a3, ↓zl_a4, ↓zl_a5, ↓zl_a6, ↓zl_a7, ↓zl_a8, ↓zl_a9, ↓zl_a10, zLS_I, ↓zl_pI, ↓zl_s1, ↓zl_s2, ↓zl_s3, ↓zl_s4, ↓zl_s5, ↓zl_s6, ↓zl_s7, ↓zl_s8, ↓zl_s9, ↓zl_s10, hL, hB, h8, ok]
theorem zd_goes_b6 {h : Nat} (hx : zLx x l) (hh : h < n) : ∀ f s F (G : g_G) (S : zS), zCB Q P A G l n S T → zCt R P A E G x o → hst (sh S h) = false → (s < zN P ∨ s = 40) → 40 < f + s → f + 1 < F →
    ∃ G1, fX1_goes_b6 E F x (some l) (Int32.ofNat h) (zadr P A s) 1 G = some G1 ∧ zFr (zIn l) G G1 ∧ zCB (fun j => j = h ∨ Q j) P A G1 l n (zupH S h (zgo P o n h f s (sh S h))) T
  | 0, s, F, G, S, hC, hX, _, hs, hf, _ => by
    have := hX.2.1.1.1.1
    omega
  | f + 1, s, F, G, S, hC, hX, hst0, hs, hf, hF => by
    have hB : gB E ≤ l := by have := hX.2.2.1; have := hx.1; omega
    obtain ⟨F, rfl⟩ := z_suc hF
    have hN := hX.2.1.1.1.1
    have hXS := hX.1
    rw [fX1_goes_b6, if_neg (by decide), zgo_succ]
    by_cases cN : zN P ≤ s
    · have e : zadr P A s = none := if_neg (by omega)
      have e40 : zadr P A 40 = none := if_neg (by omega)
      rw [if_pos e, if_pos cN, e, ← e40, zd_goes_b67 hC hX.2.1 hB hh]
      exact ⟨_, rfl, zFr.wR ⟨by omega, by omega⟩, hC.at hh⟩
    · have hs1 : s < zN P := by omega
      have e : zadr P A s = some (A s) := if_pos hs1
      obtain ⟨k1, k2, k3, k4⟩ := hX.2.1.1.2.2 s hs1
      obtain ⟨p1, p2, p3, p4, p5⟩ := hX.2.1.1.1.2 s hs1
      have s40 : s < 40 := by omega
      have hS := hX.2.1.2 s hs1
      have hne : ∀ t, zgt P s t → ¬ zadr P A t = some (A s) := fun t ht q => by
        rw [← e, zadr_eq hX.2.1.1 ht.2 (Or.inl hs1)] at q
        have := ht.1
        omega
      rw [if_neg (by rw [e]; exact fun q => by cases q), if_neg cN]
      rw [e]
      simp only [↓zx_rI, ↓zx_rT, ↓zx_chk, ↓zx_ce, ↓zx_r5, ↓zx_r6, ↓zx_r7, ↓zx_r8, ↓zx_r9, ↓zx_r12, ↓zx_r16, ↓zx_r17, ↓zx_r19, ↓zx_r20, ↓zx_r22, ↓zx_r23, ↓zx_r24, ↓zx_r28, ↓zx_r29, ↓zx_r30, ↓zx_r32, ↓zx_a4, ↓zx_a5, ↓zx_a6, ↓zx_a7, ↓zx_a8, ↓zx_a9, ↓zx_a12, ↓zx_a13, ↓zx_a25, ↓zx_a26, ↓zx_a27, ↓zx_a28, ↓zx_a29, ↓zx_a30, zXS_I, hXS, zp_rI k1, k3, s40, hX.2.2.2.2 s s40, zb_0]
      cases co : o s
      · rw [if_pos rfl, if_neg (by decide)]
        have sub : ∀ a, zIn l a → x + 5 ≤ a ∧ a < x + 2253 := fun a ha => by unfold zIn zLx at *; omega
        by_cases c8 : zkd P s = 8
        · obtain ⟨q1, q2, t, q3, q4⟩ := hS.2.2.2.2.2.2.2.1 c8
          have kk : (12 : Nat) ≤ gcl G (A s) ∧ gcl G (A s) ≤ 12 := by omega
          have hL := hC.1
          have h32 : 4 * h + zvr P s < 32 := by have := hC.n8; omega
          have kk' : ∀ v, (12 : Nat) ≤ gcl (gsI G (l + 3) (4 * h + zvr P s) v) (A s) ∧ gcl (gsI G (l + 3) (4 * h + zvr P s) v) (A s) ≤ 12 := fun _ => kk
          have hC1 := hC.vr (k := zvr P s) (v := zev P n h (sh S h) s 0) hh p2
          have hX1 : zCt R P A E (gsI G (l + 3) (4 * h + zvr P s) (zev P n h (sh S h) s 0)) x o := hX.fr (X := zIn l) (zFr.wI ⟨by omega, by omega⟩) sub
          obtain ⟨G1, r1, r2, r3⟩ := zd_goes_b6 hx hh f (znx P s) F _ _ hC1 hX1 (by rw [zup_h]; exact hst0) p4.2 (by have := p4.1; omega) (by omega)
          rw [zup_h, zup_up] at r3
          rw [if_pos c8]
          refine ⟨G1, ?_, (zFr.wI ⟨by omega, by omega⟩).trans r2, r3⟩
          unfold fV_comes
          rw [Option.bind_some, if_neg (show ¬ gcl G (A s) = 11 by omega), if_pos q1]
          have ev : ∀ G : g_G, zev P n h (sh S h) s 0 = zex P s 0 (hvr (sh S h)) (Int32.ofNat h) (Int32.ofNat n) (hfr (sh S h)) := fun _ => rfl
          simp only [fX14_comes, ↓zl_rI, ↓zl_r3, ↓zl_r4, ↓zl_r5, ↓zl_r6, ↓zl_r7, ↓zl_r8, ↓zl_r9, ↓zl_r10, ↓zl_r11, ↓zl_r12, ↓zl_chk, ↓zl_a1, ↓zl_a2, ↓zl_a3, ↓zl_a4, ↓zl_a5, ↓zl_a6, ↓zl_a7, ↓zl_a8, ↓zl_a9, ↓zl_a10, zLS_I, ↓zl_pI, ↓zl_s1, ↓zl_s2, ↓zl_s3, ↓zl_s4, ↓zl_s5, ↓zl_s6, ↓zl_s7, ↓zl_s8, ↓zl_s9, ↓zl_s10, hL, hB, zp_rI kk, zp_rR kk, q2, q3, zd_val hC hh q4 (show 24 ≤ gDP from Nat.le_refl _), Option.bind_some, zi_4, h32, zp_rR (kk' _), fX1_goes_b44, fX1_goes_b58]
          rw [zq_RI, k4, if_neg (hne _ p4)]
          exact r1
        · by_cases c9 : zkd P s = 9
          · obtain ⟨q1, t, q3, q4⟩ := hS.2.2.2.2.2.2.2.2.1 c9
            have kk : (13 : Nat) ≤ gcl G (A s) ∧ gcl G (A s) ≤ 13 := by omega
            have hL := hC.1
            have h8 : h < 8 := by have := hC.n8; omega
            have kk' : ∀ v, (13 : Nat) ≤ gcl (gsI G (l + 5) h v) (A s) ∧ gcl (gsI G (l + 5) h v) (A s) ≤ 13 := fun _ => kk
            have hC1 := hC.td (v := 31 * htd (sh S h) + zev P n h (sh S h) s 0) hh
            have hX1 : zCt R P A E (gsI G (l + 5) h (31 * htd (sh S h) + zev P n h (sh S h) s 0)) x o := hX.fr (X := zIn l) (zFr.wI ⟨by omega, by omega⟩) sub
            obtain ⟨G1, r1, r2, r3⟩ := zd_goes_b6 hx hh f (znx P s) F _ _ hC1 hX1 (by rw [zup_h]; exact hst0) p4.2 (by have := p4.1; omega) (by omega)
            rw [zup_h, zup_up] at r3
            rw [if_neg c8, if_pos c9]
            refine ⟨G1, ?_, (zFr.wI ⟨by omega, by omega⟩).trans r2, r3⟩
            unfold fV_comes
            rw [Option.bind_some, if_neg (show ¬ gcl G (A s) = 11 by omega), if_neg (show ¬ gcl G (A s) = 12 by omega), if_pos q1]
            simp only [fX15_comes, ↓zl_rI, ↓zl_r3, ↓zl_r4, ↓zl_r5, ↓zl_r6, ↓zl_r7, ↓zl_r8, ↓zl_r9, ↓zl_r10, ↓zl_r11, ↓zl_r12, ↓zl_chk, ↓zl_a1, ↓zl_a2, ↓zl_a3, ↓zl_a4, ↓zl_a5, ↓zl_a6, ↓zl_a7, ↓zl_a8, ↓zl_a9, ↓zl_a10, zLS_I, ↓zl_pI, ↓zl_s1, ↓zl_s2, ↓zl_s3, ↓zl_s4, ↓zl_s5, ↓zl_s6, ↓zl_s7, ↓zl_s8, ↓zl_s9, ↓zl_s10, hL, hB, zp_rR kk, h8, (hC.hd hh).2.2.2.2, q3, zd_val hC hh q4 (show 24 ≤ gDP from Nat.le_refl _), Option.bind_some, zp_rR (kk' _), fX1_goes_b44, fX1_goes_b58]
            rw [zq_RI, k4, if_neg (hne _ p4)]
            exact r1
          · by_cases c10 : zkd P s = 10
            · obtain ⟨q1, q5, q6, t, q3, q4⟩ := hS.2.2.2.2.2.2.2.2.2 c10
              have kk : (14 : Nat) ≤ gcl G (A s) ∧ gcl G (A s) ≤ 14 := by omega
              obtain ⟨p6, p7⟩ := p5 c10
              have pn : zgt P s (if zev P n h (sh S h) s 0 = 0 then zot P s else zth P s) := by
                split
                · exact p7
                · exact p6
              obtain ⟨G1, r1, r2, r3⟩ := zd_goes_b6 hx hh f (if zev P n h (sh S h) s 0 = 0 then zot P s else zth P s) F G S hC hX hst0 pn.2 (by have := pn.1; omega) (by omega)
              rw [if_neg c8, if_neg c9, if_pos c10]
              refine ⟨G1, ?_, r2, r3⟩
              unfold fV_comes
              rw [Option.bind_some, if_neg (show ¬ gcl G (A s) = 11 by omega), if_neg (show ¬ gcl G (A s) = 12 by omega), if_neg (show ¬ gcl G (A s) = 13 by omega), if_pos q1]
              simp only [fX16_comes, zp_rR kk, q3, q5, q6, zd_val hC hh q4 (show 24 ≤ gDP from Nat.le_refl _), Option.bind_some, fX1_goes_b44, fX1_goes_b58]
              have ev : zex P s 0 (hvr (sh S h)) (Int32.ofNat h) (Int32.ofNat n) (hfr (sh S h)) = zev P n h (sh S h) s 0 := rfl
              rw [ev]
              by_cases cz : zev P n h (sh S h) s 0 = 0
              · rw [if_pos cz] at r1 pn ⊢
                rw [Option.bind_some]
                dsimp only
                rw [if_neg (hne _ pn)]
                exact r1
              · rw [if_neg cz] at r1 pn ⊢
                rw [Option.bind_some]
                dsimp only
                rw [if_neg (hne _ pn)]
                exact r1
            · rw [if_neg c8, if_neg c9, if_neg c10]
              obtain ⟨G1, r1, r2, r3⟩ := zd_stay (E := E) hC hX.2.1 hB hh hs1 hst0 (by omega)
              have hX1 : zCt R P A E G1 x o := hX.fr r2 sub
              obtain ⟨F, rfl⟩ := z_suc (show f < F by omega)
              have t1 := zd_goes_b67 (s := s) r3 hX1.2.1 hB hh
              have t2 := r3.at (s := s) hh
              rw [zup_h, zup_up] at t2
              refine ⟨_, ?_, r2.wR2 ⟨by omega, by omega⟩, t2⟩
              rw [r1, Option.bind_some]
              simp only [fX1_goes_b44, fX1_goes_b58, ↓reduceIte]
              rw [fX1_goes_b6, if_pos rfl, ← e]
              exact t1
      · rw [if_neg (by decide), if_pos rfl]
        obtain ⟨G1, r1, r2, r3⟩ := zd_goes_b6 hx hh f (znx P s) F G S hC hX hst0 p4.2 (by have := p4.1; omega) (by omega)
        refine ⟨G1, ?_, r2, r3⟩
        simp only [zp_rR k1, k4, fX1_goes_b44, fX1_goes_b58]
        rw [if_neg (hne _ p4)]
        exact r1
theorem zd_goes {h s : Nat} (hx : zLx x l) (hh : h < n) (hC : zCB Q P A G l n S T) (hX : zCt R P A E G x o) (hst0 : hst (sh S h) = false) (hs : s < zN P ∨ s = 40) :
    ∃ G1, fX1_goes E x (some l) (Int32.ofNat h) (zadr P A s) G = some G1 ∧ zFr (zIn l) G G1 ∧ zCB (fun j => j = h ∨ Q j) P A G1 l n (zupH S h (zgoes P o n h s (sh S h))) T :=
  zd_goes_b6 hx hh 41 s gFU G S hC hX hst0 hs (by omega) (z_F _ (by omega))
theorem zCB.full (h : zCB Q P A G l n S T) (hQ : ∀ j, j < n → Q j) : zCL P A G l n S T := ⟨h.1, h.n8, h.m3, h.I0, h.I1, fun j hj => ⟨(h.hd hj).1 (hQ j hj), (h.hd hj).2⟩, h.2.2.2.2.2.2⟩
theorem zCB.monoQ {Q' : Nat → Prop} (h : zCB Q P A G l n S T) (hQ : ∀ j, Q' j → Q j) : zCB Q' P A G l n S T := ⟨h.1, h.n8, h.m3, h.I0, h.I1, fun j hj => ⟨fun q => (h.hd hj).1 (hQ j q), (h.hd hj).2⟩, h.2.2.2.2.2.2⟩
end Z13
