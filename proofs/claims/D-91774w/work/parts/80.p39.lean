/-! THE PLAIN LAW, 39: a word is laid down, in the model -/
set_option maxRecDepth 100000
section Z39
variable {P : zPr} {E : g_E} {G : g_G} {m w n r : Nat} {S : zS} {o : Nat → Bool}
theorem zm_far {h t : Nat} (hM : zMS G m) (hh : h < 8) (ht : t < 8) : fX4_farOf E m (Int32.ofNat h) (Int32.ofNat t) G = some (zfar (gI G m 5) (gI G m 6) h t, G) := by
  simp only [fX4_farOf, ↓zm_rI, ↓zm_chk, ↓zm_r0, ↓zm_r1, ↓zm_r9, ↓zm_r22, ↓zm_r23, ↓zm_r24, ↓zm_r25, ↓zm_r26, ↓zm_r27, ↓zm_r28, ↓zm_r29, ↓zm_r30, ↓zm_r31, ↓zm_r32, ↓zm_r33, ↓zm_r34, ↓zm_r36, ↓zm_r37, ↓zm_r38, ↓zm_r39, ↓zm_r43, ↓zm_r44, ↓zm_r45, ↓zm_r49, ↓zm_r50, ↓zm_r54, ↓zm_r55, ↓zm_r61, ↓zm_r62, ↓zm_r63, ↓zm_r64, ↓zm_r65, ↓zm_r66, ↓zm_r67, ↓zm_r69, ↓zm_a1, ↓zm_a2, ↓zm_a3, ↓zm_a4, ↓zm_a5, ↓zm_a6, ↓zm_a7, ↓zm_a8, ↓zm_a9, ↓zm_a10, ↓zm_a11, ↓zm_a12, ↓zm_a13, ↓zm_a14, ↓zm_a15, ↓zm_a16, ↓zm_a17, ↓zm_a18, ↓zm_a19, ↓zm_a20, ↓zm_a21, ↓zm_a22, ↓zm_a23, ↓zm_a24, ↓zm_a25, ↓zm_a26, ↓zm_a27, ↓zm_a28, ↓zm_a29, ↓zm_a30, ↓zm_a31, ↓zm_a32, ↓zm_a33, ↓zm_a34, ↓zm_a35, zMS_I, hM, zabs h hh t ht]
  unfold zfar
  rw [Int32.mul_comm]
/-- the cells that a move of the model writes -/
def zFy (m a : Nat) : Prop := m + 15 ≤ a ∧ a ≤ m + 20
theorem zm_b126 {h k : Nat} {bg : Bool} {f : Nat → Nat} {G2 : g_G} (hT : zMt P E G m n o) (hL : zML P G (m + 15) n S) (hX : zMx m G G2 (fun j => if k < j ∧ j ≤ sm S then j - 1 else j)) (hm : sm S < 320) (hkk : k ≤ sm S) (hh : h < n) (ha : hat (sh S h) < zN P) (hk : zK P S h ≤ 2) (ht : zto P n S h < 8) (hp : zlpos (sw S) (8 * h + zto P n S h) (sm S) = k) :
    ∃ G1, fX4_lay_b126 E m (Int32.ofNat h) (zb bg) (Int32.ofNat (zto P n S h)) (Int32.ofNat k) G2 = some G1 ∧ zFr (fun a => a = m + 15 ∨ a = m + 16 ∨ a = m + 20) G G1 ∧ zML P G1 (m + 15) n (zlie S (8 * h + zto P n S h, zmk P n S h, zwd P n S h, zms P (hat (sh S h)), bg)) ∧
      ∀ j, j < sm S + 1 → gI G1 (m + 20) j = zins (gI G (m + 20)) k (gI G (m + 17) h + 1 + zfar (gI G m 5) (gI G m 6) h (zto P n S h)) j := by
  have hB := hT.2.2.1
  have hn := hT.2.2.2.1
  have hP := hT.2.1.1
  have h8 : h < 8 := by omega
  have k3 : k < 320 := by omega
  have l0 : 65 + 6 * k + 0 < 1985 := by omega
  have l1 : 65 + 6 * k + 1 < 1985 := by omega
  have l2 : 65 + 6 * k + 2 < 1985 := by omega
  have l3 : 65 + 6 * k + 3 < 1985 := by omega
  have l4 : 65 + 6 * k + 4 < 1985 := by omega
  have l5 : 65 + 6 * k + 5 < 1985 := by omega
  have s0 : (65 : Int32) + 6 * Int32.ofNat k + 0 = Int32.ofNat (65 + 6 * k + 0) := zi_word k 0
  have s1 : (65 : Int32) + 6 * Int32.ofNat k + 1 = Int32.ofNat (65 + 6 * k + 1) := zi_word k 1
  have s2 : (65 : Int32) + 6 * Int32.ofNat k + 2 = Int32.ofNat (65 + 6 * k + 2) := zi_word k 2
  have s3 : (65 : Int32) + 6 * Int32.ofNat k + 3 = Int32.ofNat (65 + 6 * k + 3) := zi_word k 3
  have s4 : (65 : Int32) + 6 * Int32.ofNat k + 4 = Int32.ofNat (65 + 6 * k + 4) := zi_word k 4
  have s5 : (65 : Int32) + 6 * Int32.ofNat k + 5 = Int32.ofNat (65 + 6 * k + 5) := zi_word k 5
  have hT2 : zMt P E G2 m n o := hT.fr hX.1 (fun a ha => by unfold zFm at ha; omega)
  have hL2 : zMLh P G2 (m + 15) n S := hL.h.low (fun j hj => hX.2.1 j (by omega))
  have hM2 := hT2.1
  -- the first two cells
  generalize hA2 : gsI (gsI G2 (m + 15) (65 + 6 * k + 0) (Int32.ofNat h)) (m + 15) (65 + 6 * k + 1) (Int32.ofNat (zto P n S h)) = A2
  have f2 : zFr (fun a => a = m + 15) G2 A2 := by
    subst hA2
    exact (zFr.wI (S := fun a => a = m + 15) rfl).wI2 rfl
  have r2 : ∀ q, gI A2 (m + 15) q = if q = 65 + 6 * k + 1 then Int32.ofNat (zto P n S h) else if q = 65 + 6 * k then Int32.ofNat h else gI G2 (m + 15) q := fun q => by
    subst hA2
    rw [zq_II, zq_II]
    simp
  have hTA2 : zMt P E A2 m n o := hT2.fr f2 (fun a ha => by omega)
  have hLA2 : zMLh P A2 (m + 15) n S := hL2.low (fun j hj => by rw [r2, if_neg (by omega), if_neg (by omega)])
  have hMA2 := hTA2.1
  obtain ⟨A3, a1, a2⟩ := zh_ask (E := E) (k := 1) hTA2 hLA2 hh ha (by omega) (Or.inr (Or.inl ⟨rfl, by unfold zK at hk; omega⟩))
  have a1' : fX4_asked E m (Int32.ofNat h) 1 A2 = some (zmk P n S h, A3) := a1
  have hTA3 := zFs.hT hTA2 a2
  have hLA3 : zMLh P A3 (m + 15) n S := hLA2.fr a2 (by unfold zFs; omega)
  have hMA3 := hTA3.1
  generalize hA4 : gsI A3 (m + 15) (65 + 6 * k + 2) (zmk P n S h) = A4
  have f4 : zFr (fun a => a = m + 15) A3 A4 := by
    subst hA4
    exact zFr.wI (S := fun a => a = m + 15) rfl
  have r4 : ∀ q, gI A4 (m + 15) q = if q = 65 + 6 * k + 2 then zmk P n S h else gI A3 (m + 15) q := fun q => by
    subst hA4
    rw [zq_II]
    simp
  have hTA4 : zMt P E A4 m n o := hTA3.fr f4 (fun a ha => by omega)
  have hLA4 : zMLh P A4 (m + 15) n S := hLA3.low (fun j hj => by rw [r4, if_neg (by omega)])
  have hMA4 := hTA4.1
  obtain ⟨A5, b1, b2⟩ := zh_ask (E := E) (k := 2) hTA4 hLA4 hh ha (by omega) (Or.inr (Or.inr ⟨rfl, by unfold zK at hk; omega⟩))
  have b1' : fX4_asked E m (Int32.ofNat h) 2 A4 = some (zwd P n S h, A5) := b1
  have hTA5 := zFs.hT hTA4 b2
  have hLA5 : zMLh P A5 (m + 15) n S := hLA4.fr b2 (by unfold zFs; omega)
  have hMA5 := hTA5.1
  generalize hA6 : gsI A5 (m + 15) (65 + 6 * k + 3) (zwd P n S h) = A6
  have f6 : zFr (fun a => a = m + 15) A5 A6 := by
    subst hA6
    exact zFr.wI (S := fun a => a = m + 15) rfl
  have r6 : ∀ q, gI A6 (m + 15) q = if q = 65 + 6 * k + 3 then zwd P n S h else gI A5 (m + 15) q := fun q => by
    subst hA6
    rw [zq_II]
    simp
  have hTA6 : zMt P E A6 m n o := hTA5.fr f6 (fun a ha => by omega)
  have hLA6 : zMLh P A6 (m + 15) n S := hLA5.low (fun j hj => by rw [r6, if_neg (by omega)])
  have hMA6 := hTA6.1
  have o6 : fX4_own E m (Int32.ofNat h) 0 A6 = some (Int32.ofNat (hat (sh S h)), A6) := by
    have := zm_own (E := E) (h := h) (k := 0) hMA6 (by omega)
    have d1 := (hLA6.hd hh).1
    unfold zat at d1
    rw [if_pos ha] at d1
    rw [← d1]
    exact this
  have hs80 : hat (sh S h) < 80 := by have := hP.1; omega
  have ms6 := (hTA6.2.1.2.2.1 _ ha).2.2
  -- the last cells
  have fA : zFr (fun a => a = m + 15 ∨ a = m + 16 ∨ a = m + 20) G A6 := (hX.1.mono fun a q => by unfold zFm at q; omega).trans ((f2.mono fun a q => Or.inl q).trans ((a2.mono fun a q => Or.inr (Or.inl q)).trans ((f4.mono fun a q => Or.inl q).trans ((b2.mono fun a q => Or.inr (Or.inl q)).trans (f6.mono fun a q => Or.inl q)))))
  have n15 : ¬ zFs m (m + 15) := by unfold zFs; omega
  have n20 : ¬ zFs m (m + 20) := by unfold zFs; omega
  have e20 : gI A6 (m + 20) = gI G2 (m + 20) := by
    rw [f6.I (by omega), b2.I n20, f4.I (by omega), a2.I n20, f2.I (by omega)]
  have e17 : gI A6 (m + 17) = gI G (m + 17) := fA.I (by omega)
  have em : gI A6 m = gI G m := fA.I (by omega)
  have r6' : ∀ q, gI A6 (m + 15) q = if q = 65 + 6 * k + 3 then zwd P n S h else if q = 65 + 6 * k + 2 then zmk P n S h else if q = 65 + 6 * k + 1 then Int32.ofNat (zto P n S h) else if q = 65 + 6 * k then Int32.ofNat h else gI G2 (m + 15) q := fun q => by
    rw [r6, b2.I n15, r4, a2.I n15, r2]
  have tail : ∀ (fl : Int32) , fl = zb bg → ∃ G1, fX4_lay_b220 E m (Int32.ofNat h) (Int32.ofNat (zto P n S h)) (Int32.ofNat k) (some (m + 15)) (65 + 6 * Int32.ofNat k + 5) fl (gsI A6 (m + 15) (65 + 6 * k + 4) (Int32.ofNat (zms P (hat (sh S h))))) = some G1 ∧ zFr (fun a => a = m + 15 ∨ a = m + 16 ∨ a = m + 20) G G1 ∧
      (∀ q, gI G1 (m + 15) q = if q = 64 then Int32.ofNat (sm S + 1) else if q = 65 + 6 * k + 5 then zb bg else if q = 65 + 6 * k + 4 then Int32.ofNat (zms P (hat (sh S h))) else gI A6 (m + 15) q) ∧ ∀ j, gI G1 (m + 20) j = if j = k then gI G (m + 17) h + 1 + zfar (gI G m 5) (gI G m 6) h (zto P n S h) else gI G2 (m + 20) j := fun fl hfl => by
    subst hfl
    generalize hA8 : gsI (gsI A6 (m + 15) (65 + 6 * k + 4) (Int32.ofNat (zms P (hat (sh S h))))) (m + 15) (65 + 6 * k + 5) (zb bg) = A8
    have hM7 : zMS (gsI A6 (m + 15) (65 + 6 * k + 4) (Int32.ofNat (zms P (hat (sh S h))))) m := by rw [zMS_I]; exact hMA6
    have hM8 : zMS A8 m := by
      subst hA8
      rw [zMS_I, zMS_I]
      exact hMA6
    have f8 : zFr (fun a => a = m + 15) A6 A8 := by
      subst hA8
      exact (zFr.wI (S := fun a => a = m + 15) rfl).wI2 rfl
    have r8 : ∀ q, gI A8 (m + 15) q = if q = 65 + 6 * k + 5 then zb bg else if q = 65 + 6 * k + 4 then Int32.ofNat (zms P (hat (sh S h))) else gI A6 (m + 15) q := fun q => by
      subst hA8
      rw [zq_II, zq_II]
      simp
    have far8 := zm_far (E := E) hM8 h8 ht
    have e8 : gI A8 m = gI G m := by rw [f8.I (by omega), em]
    have e817 : gI A8 (m + 17) h = gI G (m + 17) h := by rw [f8.I (by omega), e17]
    have k321 : k < 321 := by omega
    rw [e8] at far8
    have g64 : ∀ v, gI (gsI A8 (m + 20) k v) (m + 15) 64 = Int32.ofNat (sm S) := fun v => by
      rw [zq_II, if_neg (by omega), r8, if_neg (by omega), if_neg (by omega), r6', if_neg (by omega), if_neg (by omega), if_neg (by omega), if_neg (by omega), hX.2.1 64 (by omega), hL.I]
    have hM9 : ∀ v, zMS (gsI A8 (m + 20) k v) m := fun v => by rw [zMS_I]; exact hM8
    have q64 : ∀ (G : g_G) (α : Type) (K : Int32 → Option α), zMS G m → (gaI G 100 (some (m + 15)) 64).bind K = K (gI G (m + 15) 64) := fun G α K h => zm_a15 (i := 64) h (by omega)
    have s64 : ∀ (G : g_G) (v : Int32) (α : Type) (K : g_G → Option α), zMS G m → (gsaI E G (some (m + 15)) 64 v).bind K = K (gsI G (m + 15) 64 v) := fun G v α K h => zm_s15 (i := 64) h hB (by omega)
    refine ⟨gsI (gsI A8 (m + 20) k (gI G (m + 17) h + 1 + zfar (gI G m 5) (gI G m 6) h (zto P n S h))) (m + 15) 64 (Int32.ofNat (sm S + 1)), ?_, ?_, fun q => ?_, fun j => ?_⟩
    · simp only [fX4_lay_b220, ↓zm_rI, ↓zm_chk, ↓zm_r0, ↓zm_r1, ↓zm_r9, ↓zm_r22, ↓zm_r23, ↓zm_r24, ↓zm_r25, ↓zm_r26, ↓zm_r27, ↓zm_r28, ↓zm_r29, ↓zm_r30, ↓zm_r31, ↓zm_r32, ↓zm_r33, ↓zm_r34, ↓zm_r36, ↓zm_r37, ↓zm_r38, ↓zm_r39, ↓zm_r43, ↓zm_r44, ↓zm_r45, ↓zm_r49, ↓zm_r50, ↓zm_r54, ↓zm_r55, ↓zm_r61, ↓zm_r62, ↓zm_r63, ↓zm_r64, ↓zm_r65, ↓zm_r66, ↓zm_r67, ↓zm_r69, ↓zm_a1, ↓zm_a2, ↓zm_a3, ↓zm_a4, ↓zm_a5, ↓zm_a6, ↓zm_a7, ↓zm_a8, ↓zm_a9, ↓zm_a10, ↓zm_a11, ↓zm_a12, ↓zm_a13, ↓zm_a14, ↓zm_a15, ↓zm_a16, ↓zm_a17, ↓zm_a18, ↓zm_a19, ↓zm_a20, ↓zm_a21, ↓zm_a22, ↓zm_a23, ↓zm_a24, ↓zm_a25, ↓zm_a26, ↓zm_a27, ↓zm_a28, ↓zm_a29, ↓zm_a30, ↓zm_a31, ↓zm_a32, ↓zm_a33, ↓zm_a34, ↓zm_a35, zMS_I, ↓zm_pI, ↓zm_pZ, ↓zm_s3, ↓zm_s4, ↓zm_s5, ↓zm_s6, ↓zm_s7, ↓zm_s8, ↓zm_s9, ↓zm_s10, ↓zm_s11, ↓zm_s12, ↓zm_s13, ↓zm_s14, ↓zm_s15, ↓zm_s16, ↓zm_s17, ↓zm_s18, ↓zm_s19, ↓zm_s20, ↓zm_s21, ↓zm_s22, ↓zm_s23, ↓zm_s24, ↓zm_s25, ↓zm_s26, ↓zm_s27, ↓zm_s28, ↓zm_s29, ↓zm_s30, ↓zm_s31, ↓zm_s32, ↓zm_s33, ↓zm_s34, ↓zm_s35, hM7, hB, s5, l5, hA8, hM8, h8, e817, far8, Option.bind_some, k321, q64 _ _ _ (hM9 _), g64, s64 _ _ _ _ (hM9 _), zi_inc]
    · exact (fA.trans (f8.mono fun a q => Or.inl q)).trans ((zFr.wI (Or.inr (Or.inr rfl))).wI2 (Or.inl rfl))
    · rw [zq_II, zq_II, if_neg (show ¬ (m + 15 = m + 20 ∧ q = k) by omega), r8]
      simp
    · rw [zq_II, if_neg (by omega), zq_II, f8.I (by omega), e20]
      simp
  have run : fX4_lay_b126 E m (Int32.ofNat h) (zb bg) (Int32.ofNat (zto P n S h)) (Int32.ofNat k) G2 = fX4_lay_b220 E m (Int32.ofNat h) (Int32.ofNat (zto P n S h)) (Int32.ofNat k) (some (m + 15)) (65 + 6 * Int32.ofNat k + 5) (zb bg) (gsI A6 (m + 15) (65 + 6 * k + 4) (Int32.ofNat (zms P (hat (sh S h))))) := by
    have hMA1 : zMS (gsI G2 (m + 15) (65 + 6 * k + 0) (Int32.ofNat h)) m := by rw [zMS_I]; exact hM2
    have hMA7 : zMS (gsI A6 (m + 15) (65 + 6 * k + 4) (Int32.ofNat (zms P (hat (sh S h))))) m := by rw [zMS_I]; exact hMA6
    simp only [fX4_lay_b126, fX4_wordAt, Option.bind_some, ↓zm_rI, ↓zm_chk, ↓zm_r0, ↓zm_r1, ↓zm_r9, ↓zm_r22, ↓zm_r23, ↓zm_r24, ↓zm_r25, ↓zm_r26, ↓zm_r27, ↓zm_r28, ↓zm_r29, ↓zm_r30, ↓zm_r31, ↓zm_r32, ↓zm_r33, ↓zm_r34, ↓zm_r36, ↓zm_r37, ↓zm_r38, ↓zm_r39, ↓zm_r43, ↓zm_r44, ↓zm_r45, ↓zm_r49, ↓zm_r50, ↓zm_r54, ↓zm_r55, ↓zm_r61, ↓zm_r62, ↓zm_r63, ↓zm_r64, ↓zm_r65, ↓zm_r66, ↓zm_r67, ↓zm_r69, ↓zm_a1, ↓zm_a2, ↓zm_a3, ↓zm_a4, ↓zm_a5, ↓zm_a6, ↓zm_a7, ↓zm_a8, ↓zm_a9, ↓zm_a10, ↓zm_a11, ↓zm_a12, ↓zm_a13, ↓zm_a14, ↓zm_a15, ↓zm_a16, ↓zm_a17, ↓zm_a18, ↓zm_a19, ↓zm_a20, ↓zm_a21, ↓zm_a22, ↓zm_a23, ↓zm_a24, ↓zm_a25, ↓zm_a26, ↓zm_a27, ↓zm_a28, ↓zm_a29, ↓zm_a30, ↓zm_a31, ↓zm_a32, ↓zm_a33, ↓zm_a34, ↓zm_a35, zMS_I, ↓zm_pI, ↓zm_pZ, ↓zm_s3, ↓zm_s4, ↓zm_s5, ↓zm_s6, ↓zm_s7, ↓zm_s8, ↓zm_s9, ↓zm_s10, ↓zm_s11, ↓zm_s12, ↓zm_s13, ↓zm_s14, ↓zm_s15, ↓zm_s16, ↓zm_s17, ↓zm_s18, ↓zm_s19, ↓zm_s20, ↓zm_s21, ↓zm_s22, ↓zm_s23, ↓zm_s24, ↓zm_s25, ↓zm_s26, ↓zm_s27, ↓zm_s28, ↓zm_s29, ↓zm_s30, ↓zm_s31, ↓zm_s32, ↓zm_s33, ↓zm_s34, ↓zm_s35, hM2, hB, s0, l0, s1, l1, hA2, hMA2, a1', hMA3, s2, l2, hA4, hMA4, b1', hMA5, s3, l3, hA6, hMA6, o6, hs80, ms6, s4, l4, hMA7, zb_0]
    cases bg
    · rw [if_pos rfl]
      rfl
    · rw [if_neg (by decide)]
      rfl
  obtain ⟨G1, t1, t2, t3, t4⟩ := tail (zb bg) rfl
  refine ⟨G1, run.trans t1, t2, ⟨hn, by show sm S + 1 ≤ 320; omega, fun j hj => ?_, fun i h1 h2 => ?_, ?_, fun j hj => ?_⟩, fun j hj => ?_⟩
  · have lo : ∀ q, q < 64 → gI G1 (m + 15) q = gI G (m + 15) q := fun q hq => by
      rw [t3, if_neg (by omega), if_neg (by omega), if_neg (by omega), r6', if_neg (by omega), if_neg (by omega), if_neg (by omega), if_neg (by omega), hX.2.1 q (by omega)]
    exact (hL.h.low lo).2 j hj
  · rw [t3, if_neg (by omega), if_neg (by omega), if_neg (by omega), r6', if_neg (by omega), if_neg (by omega), if_neg (by omega), if_neg (by omega), hX.2.1 i (by omega)]
    exact hL.2.2.2.1 i h1 h2
  · rw [t3, if_pos rfl]
    rfl
  · have hj : j < sm S + 1 := hj
    show zMW G1 (m + 15) j (zins (sw S) (zlpos (sw S) (8 * h + zto P n S h) (sm S)) (8 * h + zto P n S h, zmk P n S h, zwd P n S h, zms P (hat (sh S h)), bg) j)
    rw [hp]
    unfold zins
    have old : j ≠ k → ∀ i, i < 6 → gI G1 (m + 15) (65 + 6 * j + i) = gI G (m + 15) (65 + 6 * (if j < k then j else j - 1) + i) := fun hne i hi => by
      rw [t3, if_neg (by omega), if_neg (by omega), if_neg (by omega), r6', if_neg (by omega), if_neg (by omega), if_neg (by omega), if_neg (by omega), hX.2.2.1 j i hi]
      dsimp only
      by_cases c : j < k
      · rw [if_pos c, if_neg (by omega)]
      · rw [if_neg c, if_pos (by omega)]
    by_cases c : j = k
    · rw [if_neg (by omega), if_pos c, c]
      have hm1 := (hP.2 _ ha).2.2.1
      refine ⟨by show 8 * h + zto P n S h < 64; omega, hm1, ?_, ?_, ?_, ?_, ?_, ?_⟩
      · rw [t3, if_neg (by omega), if_neg (by omega), if_neg (by omega), r6', if_neg (by omega), if_neg (by omega), if_neg (by omega), if_pos rfl]
        show Int32.ofNat h = Int32.ofNat ((8 * h + zto P n S h) / 8)
        congr 1
        omega
      · rw [t3, if_neg (by omega), if_neg (by omega), if_neg (by omega), r6', if_neg (by omega), if_neg (by omega), if_pos rfl]
        show Int32.ofNat (zto P n S h) = Int32.ofNat ((8 * h + zto P n S h) % 8)
        congr 1
        omega
      · rw [t3, if_neg (by omega), if_neg (by omega), if_neg (by omega), r6', if_neg (by omega), if_pos rfl]
        rfl
      · rw [t3, if_neg (by omega), if_neg (by omega), if_neg (by omega), r6', if_pos rfl]
        rfl
      · rw [t3, if_neg (by omega), if_neg (by omega), if_pos rfl]
        rfl
      · rw [t3, if_neg (by omega), if_pos rfl]
        rfl
    · have hw := hL.wd (k := if j < k then j else j - 1) (by split <;> omega)
      have e : (if j < k then sw S j else if j = k then (8 * h + zto P n S h, zmk P n S h, zwd P n S h, zms P (hat (sh S h)), bg) else sw S (j - 1)) = sw S (if j < k then j else j - 1) := by
        by_cases c3 : j < k
        · rw [if_pos c3, if_pos c3]
        · rw [if_neg c3, if_neg c, if_neg c3]
      rw [e]
      obtain ⟨w1, w2, w3, w4, w5, w6, w7, w8⟩ := hw
      exact ⟨w1, w2, (old c 0 (by omega)).trans w3, (old c 1 (by omega)).trans w4, (old c 2 (by omega)).trans w5, (old c 3 (by omega)).trans w6, (old c 4 (by omega)).trans w7, (old c 5 (by omega)).trans w8⟩
  · rw [t4]
    unfold zins
    by_cases c : j = k
    · rw [if_pos c, if_neg (by omega), if_pos c]
    · rw [if_neg c, hX.2.2.2 j]
      dsimp only
      by_cases c3 : j < k
      · rw [if_neg (by omega), if_pos c3]
      · rw [if_pos (by omega), if_neg c3, if_neg c]
theorem zm_lay {h : Nat} {bg : Bool} (hT : zMt P E G m n o) (hL : zML P G (m + 15) n S) (hI : zinv P n S) (hm : sm S < 320) (hh : h < n) (ha : hat (sh S h) < zN P) (hs : hst (sh S h) = false) (hk : zK P S h ≤ 2) :
    ∃ G1, fX4_lay E m (Int32.ofNat h) (zb bg) G = some G1 ∧ zFr (fun a => a = m + 15 ∨ a = m + 16 ∨ a = m + 20) G G1 ∧ zML P G1 (m + 15) n (zlie S (8 * h + zto P n S h, zmk P n S h, zwd P n S h, zms P (hat (sh S h)), bg)) ∧
      ∀ j, j < sm S + 1 → gI G1 (m + 20) j = zins (gI G (m + 20)) (zlpos (sw S) (8 * h + zto P n S h) (sm S)) (gI G (m + 17) h + 1 + zfar (gI G m 5) (gI G m 6) h (zto P n S h)) j := by
  have hM := hT.1
  have hP := hT.2.1.1
  have hn := hT.2.2.2.1
  obtain ⟨t1, t2, t3⟩ := hI.to hn hh ha hP.1 hs (by omega)
  obtain ⟨A1, a1, a2⟩ := zm_ask (E := E) (k := 0) hT hL hh ha (by omega) (Or.inl ⟨rfl, Or.inl (by unfold zK at hk; omega)⟩)
  rw [t1] at a1
  have a1' : fX4_asked E m (Int32.ofNat h) 0 G = _ := a1
  have hT1 := zFs.hT hT a2
  have hL1 := zFs.hL hL a2
  have hM1 := hT1.1
  have hkk := zlpos_le (sw S) (8 * h + zto P n S h) (sm S)
  obtain ⟨G2, b1, b2⟩ := zm_lay_b13 (E := E) (v2 := zb bg) hM1 hT.2.2.1 hL1 hm (show h < 8 by omega) (show zto P n S h < 8 by omega) (sm S) gFU A1 (Nat.le_refl _) (z_F _ (by omega)) ⟨zFr.refl _ _, fun _ _ => rfl, fun j i _ => by simp only [show ¬ (sm S < j ∧ j ≤ sm S) by omega, ↓reduceIte], fun j => by simp only [show ¬ (sm S < j ∧ j ≤ sm S) by omega, ↓reduceIte]⟩
  obtain ⟨G3, c1, c2, c3, c4⟩ := zm_b126 (E := E) (bg := bg) (f := id) hT1 hL1 b2 hm hkk hh ha hk (by omega) rfl
  have n16 : ∀ k, k ≠ 16 → ¬ zFs m (m + k) := fun k hk => by unfold zFs; omega
  rw [a2.I (n16 20 (by decide)), a2.I (n16 17 (by decide)), zFs.x a2] at c4
  refine ⟨G3, ?_, (a2.mono fun a q => Or.inr (Or.inl q)).trans c2, c3, c4⟩
  rw [fX4_lay, zm_chk hM, a1', Option.bind_some, zm_chk hM1, zm_words hM1 hL1, Option.bind_some]
  exact b1.trans c1
end Z39
