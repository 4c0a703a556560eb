/-! THE PLAIN LAW, 8: the object of the class: where its arrays lie -/
set_option maxRecDepth 100000
def zXS (G : g_G) (x : Nat) : Prop := gcl G x = 1 ∧ gR G x 5 = some (x + 4) ∧ gR G x 6 = some (x + 5) ∧ gR G x 7 = some (x + 6) ∧ gR G x 8 = some (x + 7) ∧ gR G x 9 = some (x + 8) ∧ gR G x 12 = some (x + 9) ∧ gR G x 16 = some (x + 10) ∧ gR G x 17 = some (x + 12) ∧ gR G x 19 = some (x + 13) ∧ gR G x 20 = some (x + 14) ∧ gR G x 22 = some (x + 25) ∧ gR G x 23 = some (x + 26) ∧ gR G x 24 = some (x + 27) ∧ gR G x 28 = some (x + 28) ∧ gR G x 29 = some (x + 29) ∧ gR G x 30 = some (x + 30) ∧ gR G x 32 = some (x + 31) ∧ (gcl G (x + 4) = 102 ∧ gln G (x + 4) = 40) ∧ (gcl G (x + 5) = 100 ∧ gln G (x + 5) = 8) ∧ (gcl G (x + 6) = 100 ∧ gln G (x + 6) = 8) ∧ (gcl G (x + 7) = 100 ∧ gln G (x + 7) = 8) ∧ (gcl G (x + 8) = 101 ∧ gln G (x + 8) = 700) ∧ (gcl G (x + 9) = 121 ∧ gln G (x + 9) = 201) ∧ (gcl G (x + 12) = 100 ∧ gln G (x + 12) = 320) ∧ (gcl G (x + 13) = 102 ∧ gln G (x + 13) = 40) ∧ (gcl G (x + 25) = 100 ∧ gln G (x + 25) = 320) ∧ (gcl G (x + 26) = 100 ∧ gln G (x + 26) = 16) ∧ (gcl G (x + 27) = 100 ∧ gln G (x + 27) = 8) ∧ (gcl G (x + 28) = 100 ∧ gln G (x + 28) = 8) ∧ (gcl G (x + 29) = 100 ∧ gln G (x + 29) = 8) ∧ (gcl G (x + 30) = 100 ∧ gln G (x + 30) = 320) ∧ gcl G (x + 10) = 17
theorem zXS_I {G : g_G} {x a k : Nat} {v : Int32} : zXS (gsI G a k v) x = zXS G x := propext (Iff.intro id id)
theorem zXS_R {G : g_G} {x a k : Nat} {v : Option Nat} (h : zXS G x) (ha : a ≠ x) : zXS (gsR G a k v) x := by
  unfold zXS at h ⊢
  simpa only [zq_clR, zq_lnR, zq_RR, Ne.symm ha, false_and, if_false] using h
theorem zXS.fr {S : Nat → Prop} {G G1 : g_G} {x : Nat} (h : zXS G x) (f : zFr S G G1) (ha : gR G1 x = gR G x) : zXS G1 x := by
  unfold zXS at h ⊢
  rw [f.cl, f.ln, ha]
  exact h
section ZX
variable {α : Type} {E : g_E} {G : g_G} {x k i : Nat} {v : Int32} {r : Option Nat}
theorem zx_rI {K : Int32 → Option α} (h : zXS G x) : (grI G 1 1 (some x) k).bind K = K (gI G x k) := zp_rI ⟨Nat.le_of_eq h.1.symm, Nat.le_of_eq h.1⟩
theorem zx_pI {K : g_G → Option α} (h : zXS G x) (hB : gB E ≤ x) : (gpI E G 1 1 (some x) k v).bind K = K (gsI G x k v) := zp_pI ⟨Nat.le_of_eq h.1.symm, Nat.le_of_eq h.1⟩ hB
theorem zx_pZ {K : g_G → Option α} (h : zXS G x) (hB : gB E ≤ x) (hv : v = 0 ∨ v = 1) : (gpZ E G 1 1 (some x) k v).bind K = K (gsI G x k v) := zp_pZ ⟨Nat.le_of_eq h.1.symm, Nat.le_of_eq h.1⟩ hB hv
theorem zx_pR {K : g_G → Option α} (h : zXS G x) (hB : gB E ≤ x) : (gpR E G 1 1 (some x) k r).bind K = K (gsR G x k r) := zp_pR ⟨Nat.le_of_eq h.1.symm, Nat.le_of_eq h.1⟩ hB
theorem zx_rT {K : Option Nat → Option α} (h : zXS G x) : (grR G 1 1 (some x) 4).bind K = K (gR G x 4) := zp_rR ⟨Nat.le_of_eq h.1.symm, Nat.le_of_eq h.1⟩
theorem zx_chk {K : Nat → Option α} (h : zXS G x) : (gchk G 1 (some x)).bind K = K x := zp_chk h.1
theorem zx_ce {K : Nat → Option α} (h : zXS G x) : (gchk G 17 (some (x + 10))).bind K = K (x + 10) := zp_chk h.2.2.2.2.2.2.2.2.2.2.2.2.2.2.2.2.2.2.2.2.2.2.2.2.2.2.2.2.2.2.2.2
theorem zx_r5 {K : Option Nat → Option α} (h : zXS G x) : (grR G 1 1 (some x) 5).bind K = K (some (x + 4)) := by
  rw [zp_rR ⟨Nat.le_of_eq h.1.symm, Nat.le_of_eq h.1⟩, h.2.1]
theorem zx_r6 {K : Option Nat → Option α} (h : zXS G x) : (grR G 1 1 (some x) 6).bind K = K (some (x + 5)) := by
  rw [zp_rR ⟨Nat.le_of_eq h.1.symm, Nat.le_of_eq h.1⟩, h.2.2.1]
theorem zx_r7 {K : Option Nat → Option α} (h : zXS G x) : (grR G 1 1 (some x) 7).bind K = K (some (x + 6)) := by
  rw [zp_rR ⟨Nat.le_of_eq h.1.symm, Nat.le_of_eq h.1⟩, h.2.2.2.1]
theorem zx_r8 {K : Option Nat → Option α} (h : zXS G x) : (grR G 1 1 (some x) 8).bind K = K (some (x + 7)) := by
  rw [zp_rR ⟨Nat.le_of_eq h.1.symm, Nat.le_of_eq h.1⟩, h.2.2.2.2.1]
theorem zx_r9 {K : Option Nat → Option α} (h : zXS G x) : (grR G 1 1 (some x) 9).bind K = K (some (x + 8)) := by
  rw [zp_rR ⟨Nat.le_of_eq h.1.symm, Nat.le_of_eq h.1⟩, h.2.2.2.2.2.1]
theorem zx_r12 {K : Option Nat → Option α} (h : zXS G x) : (grR G 1 1 (some x) 12).bind K = K (some (x + 9)) := by
  rw [zp_rR ⟨Nat.le_of_eq h.1.symm, Nat.le_of_eq h.1⟩, h.2.2.2.2.2.2.1]
theorem zx_r16 {K : Option Nat → Option α} (h : zXS G x) : (grR G 1 1 (some x) 16).bind K = K (some (x + 10)) := by
  rw [zp_rR ⟨Nat.le_of_eq h.1.symm, Nat.le_of_eq h.1⟩, h.2.2.2.2.2.2.2.1]
theorem zx_r17 {K : Option Nat → Option α} (h : zXS G x) : (grR G 1 1 (some x) 17).bind K = K (some (x + 12)) := by
  rw [zp_rR ⟨Nat.le_of_eq h.1.symm, Nat.le_of_eq h.1⟩, h.2.2.2.2.2.2.2.2.1]
theorem zx_r19 {K : Option Nat → Option α} (h : zXS G x) : (grR G 1 1 (some x) 19).bind K = K (some (x + 13)) := by
  rw [zp_rR ⟨Nat.le_of_eq h.1.symm, Nat.le_of_eq h.1⟩, h.2.2.2.2.2.2.2.2.2.1]
theorem zx_r20 {K : Option Nat → Option α} (h : zXS G x) : (grR G 1 1 (some x) 20).bind K = K (some (x + 14)) := by
  rw [zp_rR ⟨Nat.le_of_eq h.1.symm, Nat.le_of_eq h.1⟩, h.2.2.2.2.2.2.2.2.2.2.1]
theorem zx_r22 {K : Option Nat → Option α} (h : zXS G x) : (grR G 1 1 (some x) 22).bind K = K (some (x + 25)) := by
  rw [zp_rR ⟨Nat.le_of_eq h.1.symm, Nat.le_of_eq h.1⟩, h.2.2.2.2.2.2.2.2.2.2.2.1]
theorem zx_r23 {K : Option Nat → Option α} (h : zXS G x) : (grR G 1 1 (some x) 23).bind K = K (some (x + 26)) := by
  rw [zp_rR ⟨Nat.le_of_eq h.1.symm, Nat.le_of_eq h.1⟩, h.2.2.2.2.2.2.2.2.2.2.2.2.1]
theorem zx_r24 {K : Option Nat → Option α} (h : zXS G x) : (grR G 1 1 (some x) 24).bind K = K (some (x + 27)) := by
  rw [zp_rR ⟨Nat.le_of_eq h.1.symm, Nat.le_of_eq h.1⟩, h.2.2.2.2.2.2.2.2.2.2.2.2.2.1]
theorem zx_r28 {K : Option Nat → Option α} (h : zXS G x) : (grR G 1 1 (some x) 28).bind K = K (some (x + 28)) := by
  rw [zp_rR ⟨Nat.le_of_eq h.1.symm, Nat.le_of_eq h.1⟩, h.2.2.2.2.2.2.2.2.2.2.2.2.2.2.1]
theorem zx_r29 {K : Option Nat → Option α} (h : zXS G x) : (grR G 1 1 (some x) 29).bind K = K (some (x + 29)) := by
  rw [zp_rR ⟨Nat.le_of_eq h.1.symm, Nat.le_of_eq h.1⟩, h.2.2.2.2.2.2.2.2.2.2.2.2.2.2.2.1]
theorem zx_r30 {K : Option Nat → Option α} (h : zXS G x) : (grR G 1 1 (some x) 30).bind K = K (some (x + 30)) := by
  rw [zp_rR ⟨Nat.le_of_eq h.1.symm, Nat.le_of_eq h.1⟩, h.2.2.2.2.2.2.2.2.2.2.2.2.2.2.2.2.1]
theorem zx_r32 {K : Option Nat → Option α} (h : zXS G x) : (grR G 1 1 (some x) 32).bind K = K (some (x + 31)) := by
  rw [zp_rR ⟨Nat.le_of_eq h.1.symm, Nat.le_of_eq h.1⟩, h.2.2.2.2.2.2.2.2.2.2.2.2.2.2.2.2.2.1]
theorem zx_a4 {K : Int32 → Option α} (h : zXS G x) (hi : i < 40) : (gaI G 102 (some (x + 4)) (Int32.ofNat i)).bind K = K (gI G (x + 4) i) := zp_aI h.2.2.2.2.2.2.2.2.2.2.2.2.2.2.2.2.2.2.1.1 (by rw [h.2.2.2.2.2.2.2.2.2.2.2.2.2.2.2.2.2.2.1.2]; exact hi) (by omega)
theorem zx_s4 {K : g_G → Option α} (h : zXS G x) (hB : gB E ≤ x) (hi : i < 40) : (gsaZ E G (some (x + 4)) (Int32.ofNat i) v).bind K = K (gsI G (x + 4) i (v &&& 1)) := zp_saZ (by omega) h.2.2.2.2.2.2.2.2.2.2.2.2.2.2.2.2.2.2.1.1 (by rw [h.2.2.2.2.2.2.2.2.2.2.2.2.2.2.2.2.2.2.1.2]; exact hi) (by omega)
theorem zx_a5 {K : Int32 → Option α} (h : zXS G x) (hi : i < 8) : (gaI G 100 (some (x + 5)) (Int32.ofNat i)).bind K = K (gI G (x + 5) i) := zp_aI h.2.2.2.2.2.2.2.2.2.2.2.2.2.2.2.2.2.2.2.1.1 (by rw [h.2.2.2.2.2.2.2.2.2.2.2.2.2.2.2.2.2.2.2.1.2]; exact hi) (by omega)
theorem zx_s5 {K : g_G → Option α} (h : zXS G x) (hB : gB E ≤ x) (hi : i < 8) : (gsaI E G (some (x + 5)) (Int32.ofNat i) v).bind K = K (gsI G (x + 5) i v) := zp_saI (by omega) h.2.2.2.2.2.2.2.2.2.2.2.2.2.2.2.2.2.2.2.1.1 (by rw [h.2.2.2.2.2.2.2.2.2.2.2.2.2.2.2.2.2.2.2.1.2]; exact hi) (by omega)
theorem zx_a6 {K : Int32 → Option α} (h : zXS G x) (hi : i < 8) : (gaI G 100 (some (x + 6)) (Int32.ofNat i)).bind K = K (gI G (x + 6) i) := zp_aI h.2.2.2.2.2.2.2.2.2.2.2.2.2.2.2.2.2.2.2.2.1.1 (by rw [h.2.2.2.2.2.2.2.2.2.2.2.2.2.2.2.2.2.2.2.2.1.2]; exact hi) (by omega)
theorem zx_s6 {K : g_G → Option α} (h : zXS G x) (hB : gB E ≤ x) (hi : i < 8) : (gsaI E G (some (x + 6)) (Int32.ofNat i) v).bind K = K (gsI G (x + 6) i v) := zp_saI (by omega) h.2.2.2.2.2.2.2.2.2.2.2.2.2.2.2.2.2.2.2.2.1.1 (by rw [h.2.2.2.2.2.2.2.2.2.2.2.2.2.2.2.2.2.2.2.2.1.2]; exact hi) (by omega)
theorem zx_a7 {K : Int32 → Option α} (h : zXS G x) (hi : i < 8) : (gaI G 100 (some (x + 7)) (Int32.ofNat i)).bind K = K (gI G (x + 7) i) := zp_aI h.2.2.2.2.2.2.2.2.2.2.2.2.2.2.2.2.2.2.2.2.2.1.1 (by rw [h.2.2.2.2.2.2.2.2.2.2.2.2.2.2.2.2.2.2.2.2.2.1.2]; exact hi) (by omega)
theorem zx_s7 {K : g_G → Option α} (h : zXS G x) (hB : gB E ≤ x) (hi : i < 8) : (gsaI E G (some (x + 7)) (Int32.ofNat i) v).bind K = K (gsI G (x + 7) i v) := zp_saI (by omega) h.2.2.2.2.2.2.2.2.2.2.2.2.2.2.2.2.2.2.2.2.2.1.1 (by rw [h.2.2.2.2.2.2.2.2.2.2.2.2.2.2.2.2.2.2.2.2.2.1.2]; exact hi) (by omega)
theorem zx_a8 {K : Int32 → Option α} (h : zXS G x) (hi : i < 700) : (gaI G 101 (some (x + 8)) (Int32.ofNat i)).bind K = K (gI G (x + 8) i) := zp_aI h.2.2.2.2.2.2.2.2.2.2.2.2.2.2.2.2.2.2.2.2.2.2.1.1 (by rw [h.2.2.2.2.2.2.2.2.2.2.2.2.2.2.2.2.2.2.2.2.2.2.1.2]; exact hi) (by omega)
theorem zx_s8 {K : g_G → Option α} (h : zXS G x) (hB : gB E ≤ x) (hi : i < 700) : (gsaB E G (some (x + 8)) (Int32.ofNat i) v).bind K = K (gsI G (x + 8) i v.toInt8.toInt32) := zp_saB (by omega) h.2.2.2.2.2.2.2.2.2.2.2.2.2.2.2.2.2.2.2.2.2.2.1.1 (by rw [h.2.2.2.2.2.2.2.2.2.2.2.2.2.2.2.2.2.2.2.2.2.2.1.2]; exact hi) (by omega)
theorem zx_a9 {K : Option Nat → Option α} (h : zXS G x) (hi : i < 201) : (gaR G 121 (some (x + 9)) (Int32.ofNat i)).bind K = K (gR G (x + 9) i) := zp_aR h.2.2.2.2.2.2.2.2.2.2.2.2.2.2.2.2.2.2.2.2.2.2.2.1.1 (by rw [h.2.2.2.2.2.2.2.2.2.2.2.2.2.2.2.2.2.2.2.2.2.2.2.1.2]; exact hi) (by omega)
theorem zx_a12 {K : Int32 → Option α} (h : zXS G x) (hi : i < 320) : (gaI G 100 (some (x + 12)) (Int32.ofNat i)).bind K = K (gI G (x + 12) i) := zp_aI h.2.2.2.2.2.2.2.2.2.2.2.2.2.2.2.2.2.2.2.2.2.2.2.2.1.1 (by rw [h.2.2.2.2.2.2.2.2.2.2.2.2.2.2.2.2.2.2.2.2.2.2.2.2.1.2]; exact hi) (by omega)
theorem zx_s12 {K : g_G → Option α} (h : zXS G x) (hB : gB E ≤ x) (hi : i < 320) : (gsaI E G (some (x + 12)) (Int32.ofNat i) v).bind K = K (gsI G (x + 12) i v) := zp_saI (by omega) h.2.2.2.2.2.2.2.2.2.2.2.2.2.2.2.2.2.2.2.2.2.2.2.2.1.1 (by rw [h.2.2.2.2.2.2.2.2.2.2.2.2.2.2.2.2.2.2.2.2.2.2.2.2.1.2]; exact hi) (by omega)
theorem zx_a13 {K : Int32 → Option α} (h : zXS G x) (hi : i < 40) : (gaI G 102 (some (x + 13)) (Int32.ofNat i)).bind K = K (gI G (x + 13) i) := zp_aI h.2.2.2.2.2.2.2.2.2.2.2.2.2.2.2.2.2.2.2.2.2.2.2.2.2.1.1 (by rw [h.2.2.2.2.2.2.2.2.2.2.2.2.2.2.2.2.2.2.2.2.2.2.2.2.2.1.2]; exact hi) (by omega)
theorem zx_s13 {K : g_G → Option α} (h : zXS G x) (hB : gB E ≤ x) (hi : i < 40) : (gsaZ E G (some (x + 13)) (Int32.ofNat i) v).bind K = K (gsI G (x + 13) i (v &&& 1)) := zp_saZ (by omega) h.2.2.2.2.2.2.2.2.2.2.2.2.2.2.2.2.2.2.2.2.2.2.2.2.2.1.1 (by rw [h.2.2.2.2.2.2.2.2.2.2.2.2.2.2.2.2.2.2.2.2.2.2.2.2.2.1.2]; exact hi) (by omega)
theorem zx_a25 {K : Int32 → Option α} (h : zXS G x) (hi : i < 320) : (gaI G 100 (some (x + 25)) (Int32.ofNat i)).bind K = K (gI G (x + 25) i) := zp_aI h.2.2.2.2.2.2.2.2.2.2.2.2.2.2.2.2.2.2.2.2.2.2.2.2.2.2.1.1 (by rw [h.2.2.2.2.2.2.2.2.2.2.2.2.2.2.2.2.2.2.2.2.2.2.2.2.2.2.1.2]; exact hi) (by omega)
theorem zx_s25 {K : g_G → Option α} (h : zXS G x) (hB : gB E ≤ x) (hi : i < 320) : (gsaI E G (some (x + 25)) (Int32.ofNat i) v).bind K = K (gsI G (x + 25) i v) := zp_saI (by omega) h.2.2.2.2.2.2.2.2.2.2.2.2.2.2.2.2.2.2.2.2.2.2.2.2.2.2.1.1 (by rw [h.2.2.2.2.2.2.2.2.2.2.2.2.2.2.2.2.2.2.2.2.2.2.2.2.2.2.1.2]; exact hi) (by omega)
theorem zx_a26 {K : Int32 → Option α} (h : zXS G x) (hi : i < 16) : (gaI G 100 (some (x + 26)) (Int32.ofNat i)).bind K = K (gI G (x + 26) i) := zp_aI h.2.2.2.2.2.2.2.2.2.2.2.2.2.2.2.2.2.2.2.2.2.2.2.2.2.2.2.1.1 (by rw [h.2.2.2.2.2.2.2.2.2.2.2.2.2.2.2.2.2.2.2.2.2.2.2.2.2.2.2.1.2]; exact hi) (by omega)
theorem zx_s26 {K : g_G → Option α} (h : zXS G x) (hB : gB E ≤ x) (hi : i < 16) : (gsaI E G (some (x + 26)) (Int32.ofNat i) v).bind K = K (gsI G (x + 26) i v) := zp_saI (by omega) h.2.2.2.2.2.2.2.2.2.2.2.2.2.2.2.2.2.2.2.2.2.2.2.2.2.2.2.1.1 (by rw [h.2.2.2.2.2.2.2.2.2.2.2.2.2.2.2.2.2.2.2.2.2.2.2.2.2.2.2.1.2]; exact hi) (by omega)
theorem zx_a27 {K : Int32 → Option α} (h : zXS G x) (hi : i < 8) : (gaI G 100 (some (x + 27)) (Int32.ofNat i)).bind K = K (gI G (x + 27) i) := zp_aI h.2.2.2.2.2.2.2.2.2.2.2.2.2.2.2.2.2.2.2.2.2.2.2.2.2.2.2.2.1.1 (by rw [h.2.2.2.2.2.2.2.2.2.2.2.2.2.2.2.2.2.2.2.2.2.2.2.2.2.2.2.2.1.2]; exact hi) (by omega)
theorem zx_s27 {K : g_G → Option α} (h : zXS G x) (hB : gB E ≤ x) (hi : i < 8) : (gsaI E G (some (x + 27)) (Int32.ofNat i) v).bind K = K (gsI G (x + 27) i v) := zp_saI (by omega) h.2.2.2.2.2.2.2.2.2.2.2.2.2.2.2.2.2.2.2.2.2.2.2.2.2.2.2.2.1.1 (by rw [h.2.2.2.2.2.2.2.2.2.2.2.2.2.2.2.2.2.2.2.2.2.2.2.2.2.2.2.2.1.2]; exact hi) (by omega)
theorem zx_a28 {K : Int32 → Option α} (h : zXS G x) (hi : i < 8) : (gaI G 100 (some (x + 28)) (Int32.ofNat i)).bind K = K (gI G (x + 28) i) := zp_aI h.2.2.2.2.2.2.2.2.2.2.2.2.2.2.2.2.2.2.2.2.2.2.2.2.2.2.2.2.2.1.1 (by rw [h.2.2.2.2.2.2.2.2.2.2.2.2.2.2.2.2.2.2.2.2.2.2.2.2.2.2.2.2.2.1.2]; exact hi) (by omega)
theorem zx_s28 {K : g_G → Option α} (h : zXS G x) (hB : gB E ≤ x) (hi : i < 8) : (gsaI E G (some (x + 28)) (Int32.ofNat i) v).bind K = K (gsI G (x + 28) i v) := zp_saI (by omega) h.2.2.2.2.2.2.2.2.2.2.2.2.2.2.2.2.2.2.2.2.2.2.2.2.2.2.2.2.2.1.1 (by rw [h.2.2.2.2.2.2.2.2.2.2.2.2.2.2.2.2.2.2.2.2.2.2.2.2.2.2.2.2.2.1.2]; exact hi) (by omega)
theorem zx_a29 {K : Int32 → Option α} (h : zXS G x) (hi : i < 8) : (gaI G 100 (some (x + 29)) (Int32.ofNat i)).bind K = K (gI G (x + 29) i) := zp_aI h.2.2.2.2.2.2.2.2.2.2.2.2.2.2.2.2.2.2.2.2.2.2.2.2.2.2.2.2.2.2.1.1 (by rw [h.2.2.2.2.2.2.2.2.2.2.2.2.2.2.2.2.2.2.2.2.2.2.2.2.2.2.2.2.2.2.1.2]; exact hi) (by omega)
theorem zx_s29 {K : g_G → Option α} (h : zXS G x) (hB : gB E ≤ x) (hi : i < 8) : (gsaI E G (some (x + 29)) (Int32.ofNat i) v).bind K = K (gsI G (x + 29) i v) := zp_saI (by omega) h.2.2.2.2.2.2.2.2.2.2.2.2.2.2.2.2.2.2.2.2.2.2.2.2.2.2.2.2.2.2.1.1 (by rw [h.2.2.2.2.2.2.2.2.2.2.2.2.2.2.2.2.2.2.2.2.2.2.2.2.2.2.2.2.2.2.1.2]; exact hi) (by omega)
theorem zx_a30 {K : Int32 → Option α} (h : zXS G x) (hi : i < 320) : (gaI G 100 (some (x + 30)) (Int32.ofNat i)).bind K = K (gI G (x + 30) i) := zp_aI h.2.2.2.2.2.2.2.2.2.2.2.2.2.2.2.2.2.2.2.2.2.2.2.2.2.2.2.2.2.2.2.1.1 (by rw [h.2.2.2.2.2.2.2.2.2.2.2.2.2.2.2.2.2.2.2.2.2.2.2.2.2.2.2.2.2.2.2.1.2]; exact hi) (by omega)
theorem zx_s30 {K : g_G → Option α} (h : zXS G x) (hB : gB E ≤ x) (hi : i < 320) : (gsaI E G (some (x + 30)) (Int32.ofNat i) v).bind K = K (gsI G (x + 30) i v) := zp_saI (by omega) h.2.2.2.2.2.2.2.2.2.2.2.2.2.2.2.2.2.2.2.2.2.2.2.2.2.2.2.2.2.2.2.1.1 (by rw [h.2.2.2.2.2.2.2.2.2.2.2.2.2.2.2.2.2.2.2.2.2.2.2.2.2.2.2.2.2.2.2.1.2]; exact hi) (by omega)
end ZX
