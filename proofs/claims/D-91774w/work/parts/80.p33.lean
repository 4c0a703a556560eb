/-! THE PLAIN LAW, 33: a hand comes to a step, in the model -/
set_option maxRecDepth 100000
def zFw (m a : Nat) : Prop := a = m + 15 ∨ a = m + 16
def zsp (P : zPr) (s : Nat) : Int32 := if s < zN P then Int32.ofNat s else -1
section Z33
variable {P : zPr} {E : g_E} {G : g_G} {m w n : Nat} {S : zS} {o : Nat → Bool}
theorem zML.up {G1 : g_G} {h : Nat} {H : zH} (hL : zML P G w n S) (hh : h < n) (e : ∀ j, ¬ (8 * h ≤ j ∧ j < 8 * h + 8) → gI G1 w j = gI G w j) (hn : zMH P G1 w h H) : zML P G1 w n (zupH S h H) := by
  obtain ⟨h1, h2, h3, h4, h5, h6⟩ := hL
  refine ⟨h1, h2, fun j hj => ?_, fun i hi hi2 => by rw [e i (by omega)]; exact h4 i hi hi2, by rw [e 64 (by omega)]; exact h5, fun k hk => ?_⟩
  · by_cases c : j = h
    · subst c
      rw [zup_h]
      exact hn
    · rw [zup_o c]
      obtain ⟨d1, d2, d3, d4, d5⟩ := h3 j hj
      exact ⟨by rw [e _ (by omega)]; exact d1, by rw [e _ (by omega)]; exact d2, fun k hk => by rw [e _ (by omega)]; exact d3 k hk, by rw [e _ (by omega)]; exact d4, by rw [e _ (by omega)]; exact d5⟩
  · obtain ⟨w1, w2, w3, w4, w5, w6, w7, w8⟩ := h6 k hk
    exact ⟨w1, w2, by rw [e _ (by omega)]; exact w3, by rw [e _ (by omega)]; exact w4, by rw [e _ (by omega)]; exact w5, by rw [e _ (by omega)]; exact w6, by rw [e _ (by omega)]; exact w7, by rw [e _ (by omega)]; exact w8⟩
theorem zML.at {h s : Nat} (hL : zML P G w n S) (hh : h < n) : zML P (gsI G w (8 * h + 0) (zsp P s)) w n (zupH S h (s, hst (sh S h), hvr (sh S h), hfr (sh S h), htd (sh S h))) := by
  obtain ⟨d1, d2, d3, d4, d5⟩ := hL.hd hh
  refine hL.up hh (fun j hj => by rw [zq_II, if_neg (by omega)]) ⟨by rw [zq_II, if_pos ⟨rfl, rfl⟩]; rfl, by rw [zq_II, if_neg (by omega)]; exact d2, fun k hk => by rw [zq_II, if_neg (by omega)]; exact d3 k hk, by rw [zq_II, if_neg (by omega)]; exact d4, by rw [zq_II, if_neg (by omega)]; exact d5⟩
theorem zML.st {h : Nat} {b : Bool} (hL : zML P G w n S) (hh : h < n) : zML P (gsI G w (8 * h + 1) (zb b)) w n (zupH S h (hat (sh S h), b, hvr (sh S h), hfr (sh S h), htd (sh S h))) := by
  obtain ⟨d1, d2, d3, d4, d5⟩ := hL.hd hh
  refine hL.up hh (fun j hj => by rw [zq_II, if_neg (by omega)]) ⟨by rw [zq_II, if_neg (by omega)]; exact d1, by rw [zq_II, if_pos ⟨rfl, rfl⟩]; rfl, fun k hk => by rw [zq_II, if_neg (by omega)]; exact d3 k hk, by rw [zq_II, if_neg (by omega)]; exact d4, by rw [zq_II, if_neg (by omega)]; exact d5⟩
theorem zML.vr {h k : Nat} {v : Int32} (hL : zML P G w n S) (hh : h < n) (hk : k < 4) : zML P (gsI G w (8 * h + (2 + k)) v) w n (zupH S h (hat (sh S h), hst (sh S h), va_up (hvr (sh S h)) k v, hfr (sh S h), htd (sh S h))) := by
  obtain ⟨d1, d2, d3, d4, d5⟩ := hL.hd hh
  refine hL.up hh (fun j hj => by rw [zq_II, if_neg (by omega)]) ⟨by rw [zq_II, if_neg (by omega)]; exact d1, by rw [zq_II, if_neg (by omega)]; exact d2, fun k' hk' => ?_, by rw [zq_II, if_neg (by omega)]; exact d4, by rw [zq_II, if_neg (by omega)]; exact d5⟩
  rw [zq_II]
  show _ = if k' = k then v else hvr (sh S h) k'
  by_cases c : k' = k
  · rw [if_pos (by omega), if_pos c]
  · rw [if_neg (by omega), if_neg c, d3 k' hk']
theorem zML.fm {h : Nat} {v : Int32} (hL : zML P G w n S) (hh : h < n) : zML P (gsI G w (8 * h + 6) v) w n (zupH S h (hat (sh S h), hst (sh S h), hvr (sh S h), v, htd (sh S h))) := by
  obtain ⟨d1, d2, d3, d4, d5⟩ := hL.hd hh
  refine hL.up hh (fun j hj => by rw [zq_II, if_neg (by omega)]) ⟨by rw [zq_II, if_neg (by omega)]; exact d1, by rw [zq_II, if_neg (by omega)]; exact d2, fun k hk => by rw [zq_II, if_neg (by omega)]; exact d3 k hk, by rw [zq_II, if_pos ⟨rfl, rfl⟩]; rfl, by rw [zq_II, if_neg (by omega)]; exact d5⟩
theorem zML.td {h : Nat} {v : Int32} (hL : zML P G w n S) (hh : h < n) : zML P (gsI G w (8 * h + 7) v) w n (zupH S h (hat (sh S h), hst (sh S h), hvr (sh S h), hfr (sh S h), v)) := by
  obtain ⟨d1, d2, d3, d4, d5⟩ := hL.hd hh
  refine hL.up hh (fun j hj => by rw [zq_II, if_neg (by omega)]) ⟨by rw [zq_II, if_neg (by omega)]; exact d1, by rw [zq_II, if_neg (by omega)]; exact d2, fun k hk => by rw [zq_II, if_neg (by omega)]; exact d3 k hk, by rw [zq_II, if_neg (by omega)]; exact d4, by rw [zq_II, if_pos ⟨rfl, rfl⟩]; rfl⟩
theorem zsp_m1 {s : Nat} (hN : zN P ≤ 40) : (zsp P s = -1) = (¬ s < zN P) := by
  unfold zsp
  by_cases c : s < zN P
  · rw [if_pos c]
    exact propext ⟨fun q => absurd q (zm1 s (by omega)), fun q => absurd c q⟩
  · rw [if_neg c]
    exact propext ⟨fun _ => c, fun _ => rfl⟩
theorem zm_isIn (v a b : Int32) : fX4_isIn E v a b G = some (zb (!decide (v < a) && !decide (b < v)), G) := by
  unfold fX4_isIn
  by_cases c : v < a
  · simp [c, zb]
  · by_cases c2 : b < v
    · simp [c, c2, zb]
    · simp [c, c2, zb]
theorem zi_pred {n : Nat} (hn : n ≤ 8) : ∀ v : Int32, (Int32.ofNat n - 1 < v) = ¬ (v < Int32.ofNat n) := fun v => by
  rw [Int32.lt_iff_toInt_lt, Int32.lt_iff_toInt_lt, Int32.toInt_sub, Int32.toInt_ofNat_of_lt (by omega), show (1 : Int32).toInt = 1 from rfl, Int.bmod_eq_of_le (by omega) (by omega)]
  exact propext (by omega)
theorem zm_other {h : Nat} (hT : zMt P E G m n o) (hL : zML P G (m + 15) n S) (hh : h < n) (ha : hat (sh S h) < zN P) (hk : zkd P (hat (sh S h)) ≤ 3) :
    ∃ G1, fX4_hasOther E m (Int32.ofNat h) G = some (zb (zisO n h (zev P n h (sh S h) (hat (sh S h)) 0)), G1) ∧ zFr (zFs m) G G1 := by
  have hM := hT.1
  obtain ⟨G1, g1, g2⟩ := zm_ask (E := E) (k := 0) hT hL hh ha (by omega) (Or.inl ⟨rfl, Or.inl hk⟩)
  have hT1 := hT.fr g2 (fun a ha => by unfold zFs at ha; omega)
  have hM1 := hT1.1
  have hn := hT.2.2.2.1
  refine ⟨G1, ?_, g2⟩
  have g1' : fX4_asked E m (Int32.ofNat h) 0 G = _ := g1
  simp only [fX4_hasOther, ↓zm_rI, ↓zm_chk, ↓zm_r0, ↓zm_r1, ↓zm_r9, ↓zm_r22, ↓zm_r23, ↓zm_r24, ↓zm_r25, ↓zm_r26, ↓zm_r27, ↓zm_r28, ↓zm_r29, ↓zm_r30, ↓zm_r31, ↓zm_r32, ↓zm_r33, ↓zm_r34, ↓zm_r36, ↓zm_r37, ↓zm_r38, ↓zm_r39, ↓zm_r43, ↓zm_r44, ↓zm_r45, ↓zm_r49, ↓zm_r50, ↓zm_r54, ↓zm_r55, ↓zm_r61, ↓zm_r62, ↓zm_r63, ↓zm_r64, ↓zm_r65, ↓zm_r66, ↓zm_r67, ↓zm_r69, ↓zm_a1, ↓zm_a2, ↓zm_a3, ↓zm_a4, ↓zm_a5, ↓zm_a6, ↓zm_a7, ↓zm_a8, ↓zm_a9, ↓zm_a10, ↓zm_a11, ↓zm_a12, ↓zm_a13, ↓zm_a14, ↓zm_a15, ↓zm_a16, ↓zm_a17, ↓zm_a18, ↓zm_a19, ↓zm_a20, ↓zm_a21, ↓zm_a22, ↓zm_a23, ↓zm_a24, ↓zm_a25, ↓zm_a26, ↓zm_a27, ↓zm_a28, ↓zm_a29, ↓zm_a30, ↓zm_a31, ↓zm_a32, ↓zm_a33, ↓zm_a34, ↓zm_a35, zMS_I, hM, g1', Option.bind_some, hM1, hT1.2.2.2.2.1, zm_isIn, true_or, or_true, ↓reduceIte, zb_0]
  unfold zisO
  generalize zev P n h (sh S h) (hat (sh S h)) 0 = v
  have e1 : decide (v < 0) = !decide (0 ≤ v) := by
    rw [← decide_not, decide_eq_decide, Int32.not_le]
  have e2 : decide (Int32.ofNat n - 1 < v) = !decide (v < Int32.ofNat n) := by
    rw [← decide_not, decide_eq_decide, zi_pred hn]
  rw [e1, e2, Bool.not_not, Bool.not_not]
  by_cases c1 : 0 ≤ v
  · by_cases c2 : v < Int32.ofNat n
    · by_cases c3 : v = Int32.ofNat h
      · simp [c1, c2, c3, zb]
      · simp [c1, c2, c3, zb]
    · simp [c1, c2, zb]
  · simp [c1, zb]
theorem zm_come_end {h s : Nat} (hT : zMt P E G m n o) (hL : zML P G (m + 15) n S) (hh : h < n) (hs : hat (sh S h) = s) (hst0 : hst (sh S h) = false) (hk : s < zN P → zkd P s ≤ 7) (F : Nat) :
    ∃ G1, fX4_come_b5 E (F + 1) m (Int32.ofNat h) (zsp P s) 0 G = some G1 ∧ zFr (zFw m) G G1 ∧ zML P G1 (m + 15) n (zupH S h (s, decide (s < zN P) && (decide (zkd P s ≤ 3) && !zisO n h (zev P n h (sh S h) s 0)), hvr (sh S h), hfr (sh S h), htd (sh S h))) := by
  have hM := hT.1
  have hB := hT.2.2.1
  have hN := hT.2.1.1.1
  have hn := hT.2.2.2.1
  have same : zupH S h (s, false, hvr (sh S h), hfr (sh S h), htd (sh S h)) = S := by
    rw [← hs, ← hst0, show ((hat (sh S h), hst (sh S h), hvr (sh S h), hfr (sh S h), htd (sh S h)) : zH) = sh S h from rfl, zup_self]
  rw [fX4_come_b5, if_pos rfl]
  by_cases c : s < zN P
  · have e : zsp P s = Int32.ofNat s := if_pos c
    have ks := (hT.2.1.2.2.1 s c).1
    have s80 : s < 80 := by omega
    have hk := hk c
    rw [e, if_neg (zm1 s (by omega)), decide_eq_true c, Bool.true_and]
    simp only [↓zm_rI, ↓zm_chk, ↓zm_r0, ↓zm_r1, ↓zm_r9, ↓zm_r22, ↓zm_r23, ↓zm_r24, ↓zm_r25, ↓zm_r26, ↓zm_r27, ↓zm_r28, ↓zm_r29, ↓zm_r30, ↓zm_r31, ↓zm_r32, ↓zm_r33, ↓zm_r34, ↓zm_r36, ↓zm_r37, ↓zm_r38, ↓zm_r39, ↓zm_r43, ↓zm_r44, ↓zm_r45, ↓zm_r49, ↓zm_r50, ↓zm_r54, ↓zm_r55, ↓zm_r61, ↓zm_r62, ↓zm_r63, ↓zm_r64, ↓zm_r65, ↓zm_r66, ↓zm_r67, ↓zm_r69, ↓zm_a1, ↓zm_a2, ↓zm_a3, ↓zm_a4, ↓zm_a5, ↓zm_a6, ↓zm_a7, ↓zm_a8, ↓zm_a9, ↓zm_a10, ↓zm_a11, ↓zm_a12, ↓zm_a13, ↓zm_a14, ↓zm_a15, ↓zm_a16, ↓zm_a17, ↓zm_a18, ↓zm_a19, ↓zm_a20, ↓zm_a21, ↓zm_a22, ↓zm_a23, ↓zm_a24, ↓zm_a25, ↓zm_a26, ↓zm_a27, ↓zm_a28, ↓zm_a29, ↓zm_a30, ↓zm_a31, ↓zm_a32, ↓zm_a33, ↓zm_a34, ↓zm_a35, zMS_I, hM, s80, ks]
    by_cases c3 : zkd P s ≤ 3
    · rw [if_neg (show ¬ (3 : Int32) < Int32.ofNat (zkd P s) from zi_nlt (a := 3) (b := zkd P s) c3 (by omega)), decide_eq_true c3, Bool.true_and]
      subst hs
      obtain ⟨G1, g1, g2⟩ := zm_other (E := E) hT hL hh c c3
      have hT1 := hT.fr g2 (fun a ha => by unfold zFs at ha; omega)
      have hL1 := hL.fr g2 (by unfold zFs; omega)
      have hM1 := hT1.1
      rw [g1, Option.bind_some]
      simp only [zb_n0]
      cases q : zisO n h (zev P n h (sh S h) (hat (sh S h)) 0)
      · rw [if_neg (by decide)]
        have pp : fX4_put E m (Int32.ofNat h) 1 1 G1 = some (gsI G1 (m + 15) (8 * h + 1) 1) := zm_put hM1 hB (k := 1) (by omega)
        simp only [↓zm_rI, ↓zm_chk, ↓zm_r0, ↓zm_r1, ↓zm_r9, ↓zm_r22, ↓zm_r23, ↓zm_r24, ↓zm_r25, ↓zm_r26, ↓zm_r27, ↓zm_r28, ↓zm_r29, ↓zm_r30, ↓zm_r31, ↓zm_r32, ↓zm_r33, ↓zm_r34, ↓zm_r36, ↓zm_r37, ↓zm_r38, ↓zm_r39, ↓zm_r43, ↓zm_r44, ↓zm_r45, ↓zm_r49, ↓zm_r50, ↓zm_r54, ↓zm_r55, ↓zm_r61, ↓zm_r62, ↓zm_r63, ↓zm_r64, ↓zm_r65, ↓zm_r66, ↓zm_r67, ↓zm_r69, ↓zm_a1, ↓zm_a2, ↓zm_a3, ↓zm_a4, ↓zm_a5, ↓zm_a6, ↓zm_a7, ↓zm_a8, ↓zm_a9, ↓zm_a10, ↓zm_a11, ↓zm_a12, ↓zm_a13, ↓zm_a14, ↓zm_a15, ↓zm_a16, ↓zm_a17, ↓zm_a18, ↓zm_a19, ↓zm_a20, ↓zm_a21, ↓zm_a22, ↓zm_a23, ↓zm_a24, ↓zm_a25, ↓zm_a26, ↓zm_a27, ↓zm_a28, ↓zm_a29, ↓zm_a30, ↓zm_a31, ↓zm_a32, ↓zm_a33, ↓zm_a34, ↓zm_a35, zMS_I, hM1, pp, Option.bind_some]
        refine ⟨_, rfl, (g2.mono fun a q => Or.inr q).wI2 (Or.inl rfl), ?_⟩
        exact hL1.st (b := true) hh
      · rw [if_pos rfl]
        refine ⟨G1, rfl, g2.mono fun a q => Or.inr q, ?_⟩
        rw [Bool.not_true, same]
        exact hL1
    · rw [if_pos (show (3 : Int32) < Int32.ofNat (zkd P s) from zi_lt (a := 3) (by omega) (by omega)), decide_eq_false c3, Bool.false_and, same]
      exact ⟨G, rfl, zFr.refl _ _, hL⟩
  · rw [if_pos (by rw [zsp_m1 hN]; exact c), decide_eq_false c, Bool.false_and, same]
    exact ⟨G, rfl, zFr.refl _ _, hL⟩
end Z33
