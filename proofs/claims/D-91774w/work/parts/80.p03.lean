/-! THE PLAIN LAW, 3: a Life of the class: where its cells lie; what it says -/
set_option maxRecDepth 100000
/-- only cells of S were written -/
def zFr (S : Nat → Prop) (G G1 : g_G) : Prop := gsz G1 = gsz G ∧ gsl G1 = gsl G ∧ gcl G1 = gcl G ∧ gln G1 = gln G ∧ gL G1 = gL G ∧ ∀ a, ¬ S a → gI G1 a = gI G a ∧ gR G1 a = gR G a
theorem zFr.refl (S : Nat → Prop) (G : g_G) : zFr S G G := ⟨rfl, rfl, rfl, rfl, rfl, fun _ _ => ⟨rfl, rfl⟩⟩
theorem zFr.trans {S : Nat → Prop} {G G1 G2 : g_G} (h : zFr S G G1) (k : zFr S G1 G2) : zFr S G G2 :=
  ⟨k.1.trans h.1, k.2.1.trans h.2.1, k.2.2.1.trans h.2.2.1, k.2.2.2.1.trans h.2.2.2.1, k.2.2.2.2.1.trans h.2.2.2.2.1, fun a ha => ⟨(k.2.2.2.2.2 a ha).1.trans (h.2.2.2.2.2 a ha).1, (k.2.2.2.2.2 a ha).2.trans (h.2.2.2.2.2 a ha).2⟩⟩
theorem zFr.mono {S S' : Nat → Prop} {G G1 : g_G} (h : zFr S G G1) (hs : ∀ a, S a → S' a) : zFr S' G G1 :=
  ⟨h.1, h.2.1, h.2.2.1, h.2.2.2.1, h.2.2.2.2.1, fun a ha => h.2.2.2.2.2 a (fun q => ha (hs a q))⟩
theorem zg2 {α : Type} {f : Nat → Nat → α} {a b k : Nat} {v : α} (h : b ≠ a) : g2 f a k v b = f b := by
  funext j
  unfold g2
  rw [if_neg (fun q => h q.1)]
theorem zFr.wI {S : Nat → Prop} {G : g_G} {a k : Nat} {v : Int32} (h : S a) : zFr S G (gsI G a k v) :=
  ⟨rfl, rfl, rfl, rfl, rfl, fun b hb => ⟨zg2 (fun q => hb (q ▸ h)), rfl⟩⟩
theorem zFr.wR {S : Nat → Prop} {G : g_G} {a k : Nat} {v : Option Nat} (h : S a) : zFr S G (gsR G a k v) :=
  ⟨rfl, rfl, rfl, rfl, rfl, fun b hb => ⟨rfl, zg2 (fun q => hb (q ▸ h))⟩⟩
theorem zFr.I {S : Nat → Prop} {G G1 : g_G} (h : zFr S G G1) {a : Nat} (ha : ¬ S a) : gI G1 a = gI G a := (h.2.2.2.2.2 a ha).1
theorem zFr.R {S : Nat → Prop} {G G1 : g_G} (h : zFr S G G1) {a : Nat} (ha : ¬ S a) : gR G1 a = gR G a := (h.2.2.2.2.2 a ha).2
theorem zFr.cl {S : Nat → Prop} {G G1 : g_G} (h : zFr S G G1) : gcl G1 = gcl G := h.2.2.1
theorem zFr.ln {S : Nat → Prop} {G G1 : g_G} (h : zFr S G G1) : gln G1 = gln G := h.2.2.2.1
theorem zFr.wI2 {S : Nat → Prop} {G G1 : g_G} {a k : Nat} {v : Int32} (h : zFr S G G1) (ha : S a) : zFr S G (gsI G1 a k v) := h.trans (zFr.wI ha)
theorem zFr.wR2 {S : Nat → Prop} {G G1 : g_G} {a k : Nat} {v : Option Nat} (h : zFr S G G1) (ha : S a) : zFr S G (gsR G1 a k v) := h.trans (zFr.wR ha)
/-- where a Life's arrays lie -/
def zLS (G : g_G) (l : Nat) : Prop := gcl G l = 3 ∧ gR G l 3 = some (l + 1) ∧ gR G l 4 = some (l + 2) ∧ gR G l 5 = some (l + 3) ∧ gR G l 6 = some (l + 4) ∧ gR G l 7 = some (l + 5) ∧ gR G l 8 = some (l + 6) ∧ gR G l 9 = some (l + 7) ∧ gR G l 10 = some (l + 8) ∧ gR G l 11 = some (l + 9) ∧ gR G l 12 = some (l + 10) ∧ (gcl G (l + 1) = 122 ∧ gln G (l + 1) = 8) ∧ (gcl G (l + 2) = 102 ∧ gln G (l + 2) = 8) ∧ (gcl G (l + 3) = 100 ∧ gln G (l + 3) = 32) ∧ (gcl G (l + 4) = 100 ∧ gln G (l + 4) = 8) ∧ (gcl G (l + 5) = 100 ∧ gln G (l + 5) = 8) ∧ (gcl G (l + 6) = 100 ∧ gln G (l + 6) = 320) ∧ (gcl G (l + 7) = 100 ∧ gln G (l + 7) = 320) ∧ (gcl G (l + 8) = 100 ∧ gln G (l + 8) = 320) ∧ (gcl G (l + 9) = 100 ∧ gln G (l + 9) = 320) ∧ (gcl G (l + 10) = 100 ∧ gln G (l + 10) = 320)
theorem zLS_I {G : g_G} {l a k : Nat} {v : Int32} : zLS (gsI G a k v) l = zLS G l := propext (Iff.intro id id)
theorem zLS_R {G : g_G} {l a k : Nat} {v : Option Nat} (h : zLS G l) (ha : a ≠ l) : zLS (gsR G a k v) l := by
  unfold zLS at h ⊢
  simpa only [zq_clR, zq_lnR, zq_RR, Ne.symm ha, false_and, if_false] using h
theorem zLS.fr {S : Nat → Prop} {G G1 : g_G} {l : Nat} (h : zLS G l) (f : zFr S G G1) (ha : gR G1 l = gR G l) : zLS G1 l := by
  unfold zLS at h ⊢
  rw [f.cl, f.ln, ha]
  exact h
section ZL
variable {α : Type} {E : g_E} {G : g_G} {l k i : Nat} {v : Int32} {r : Option Nat}
theorem zl_rI {K : Int32 → Option α} (h : zLS G l) : (grI G 3 3 (some l) k).bind K = K (gI G l k) := zp_rI ⟨Nat.le_of_eq h.1.symm, Nat.le_of_eq h.1⟩
theorem zl_pI {K : g_G → Option α} (h : zLS G l) (hB : gB E ≤ l) : (gpI E G 3 3 (some l) k v).bind K = K (gsI G l k v) := zp_pI ⟨Nat.le_of_eq h.1.symm, Nat.le_of_eq h.1⟩ hB
theorem zl_chk {K : Nat → Option α} (h : zLS G l) : (gchk G 3 (some l)).bind K = K l := zp_chk h.1
theorem zl_r3 {K : Option Nat → Option α} (h : zLS G l) : (grR G 3 3 (some l) 3).bind K = K (some (l + 1)) := by
  rw [zp_rR ⟨Nat.le_of_eq h.1.symm, Nat.le_of_eq h.1⟩, h.2.1]
theorem zl_a1 {K : Option Nat → Option α} (h : zLS G l) (hi : i < 8) : (gaR G 122 (some (l + 1)) (Int32.ofNat i)).bind K = K (gR G (l + 1) i) := zp_aR h.2.2.2.2.2.2.2.2.2.2.2.1.1 (by rw [h.2.2.2.2.2.2.2.2.2.2.2.1.2]; exact hi) (by omega)
theorem zl_s1 {K : g_G → Option α} (h : zLS G l) (hB : gB E ≤ l) (hi : i < 8) (hr : r.all (fun b => gasg 122 (gcl G b)) = true) : (gsaR E G 122 (some (l + 1)) (Int32.ofNat i) r).bind K = K (gsR G (l + 1) i r) := zp_saR (by omega) h.2.2.2.2.2.2.2.2.2.2.2.1.1 (by rw [h.2.2.2.2.2.2.2.2.2.2.2.1.2]; exact hi) (by omega) hr
theorem zl_r4 {K : Option Nat → Option α} (h : zLS G l) : (grR G 3 3 (some l) 4).bind K = K (some (l + 2)) := by
  rw [zp_rR ⟨Nat.le_of_eq h.1.symm, Nat.le_of_eq h.1⟩, h.2.2.1]
theorem zl_a2 {K : Int32 → Option α} (h : zLS G l) (hi : i < 8) : (gaI G 102 (some (l + 2)) (Int32.ofNat i)).bind K = K (gI G (l + 2) i) := zp_aI h.2.2.2.2.2.2.2.2.2.2.2.2.1.1 (by rw [h.2.2.2.2.2.2.2.2.2.2.2.2.1.2]; exact hi) (by omega)
theorem zl_s2 {K : g_G → Option α} (h : zLS G l) (hB : gB E ≤ l) (hi : i < 8) : (gsaZ E G (some (l + 2)) (Int32.ofNat i) v).bind K = K (gsI G (l + 2) i (v &&& 1)) := zp_saZ (by omega) h.2.2.2.2.2.2.2.2.2.2.2.2.1.1 (by rw [h.2.2.2.2.2.2.2.2.2.2.2.2.1.2]; exact hi) (by omega)
theorem zl_r5 {K : Option Nat → Option α} (h : zLS G l) : (grR G 3 3 (some l) 5).bind K = K (some (l + 3)) := by
  rw [zp_rR ⟨Nat.le_of_eq h.1.symm, Nat.le_of_eq h.1⟩, h.2.2.2.1]
theorem zl_a3 {K : Int32 → Option α} (h : zLS G l) (hi : i < 32) : (gaI G 100 (some (l + 3)) (Int32.ofNat i)).bind K = K (gI G (l + 3) i) := zp_aI h.2.2.2.2.2.2.2.2.2.2.2.2.2.1.1 (by rw [h.2.2.2.2.2.2.2.2.2.2.2.2.2.1.2]; exact hi) (by omega)
theorem zl_s3 {K : g_G → Option α} (h : zLS G l) (hB : gB E ≤ l) (hi : i < 32) : (gsaI E G (some (l + 3)) (Int32.ofNat i) v).bind K = K (gsI G (l + 3) i v) := zp_saI (by omega) h.2.2.2.2.2.2.2.2.2.2.2.2.2.1.1 (by rw [h.2.2.2.2.2.2.2.2.2.2.2.2.2.1.2]; exact hi) (by omega)
theorem zl_r6 {K : Option Nat → Option α} (h : zLS G l) : (grR G 3 3 (some l) 6).bind K = K (some (l + 4)) := by
  rw [zp_rR ⟨Nat.le_of_eq h.1.symm, Nat.le_of_eq h.1⟩, h.2.2.2.2.1]
theorem zl_a4 {K : Int32 → Option α} (h : zLS G l) (hi : i < 8) : (gaI G 100 (some (l + 4)) (Int32.ofNat i)).bind K = K (gI G (l + 4) i) := zp_aI h.2.2.2.2.2.2.2.2.2.2.2.2.2.2.1.1 (by rw [h.2.2.2.2.2.2.2.2.2.2.2.2.2.2.1.2]; exact hi) (by omega)
theorem zl_s4 {K : g_G → Option α} (h : zLS G l) (hB : gB E ≤ l) (hi : i < 8) : (gsaI E G (some (l + 4)) (Int32.ofNat i) v).bind K = K (gsI G (l + 4) i v) := zp_saI (by omega) h.2.2.2.2.2.2.2.2.2.2.2.2.2.2.1.1 (by rw [h.2.2.2.2.2.2.2.2.2.2.2.2.2.2.1.2]; exact hi) (by omega)
theorem zl_r7 {K : Option Nat → Option α} (h : zLS G l) : (grR G 3 3 (some l) 7).bind K = K (some (l + 5)) := by
  rw [zp_rR ⟨Nat.le_of_eq h.1.symm, Nat.le_of_eq h.1⟩, h.2.2.2.2.2.1]
theorem zl_a5 {K : Int32 → Option α} (h : zLS G l) (hi : i < 8) : (gaI G 100 (some (l + 5)) (Int32.ofNat i)).bind K = K (gI G (l + 5) i) := zp_aI h.2.2.2.2.2.2.2.2.2.2.2.2.2.2.2.1.1 (by rw [h.2.2.2.2.2.2.2.2.2.2.2.2.2.2.2.1.2]; exact hi) (by omega)
theorem zl_s5 {K : g_G → Option α} (h : zLS G l) (hB : gB E ≤ l) (hi : i < 8) : (gsaI E G (some (l + 5)) (Int32.ofNat i) v).bind K = K (gsI G (l + 5) i v) := zp_saI (by omega) h.2.2.2.2.2.2.2.2.2.2.2.2.2.2.2.1.1 (by rw [h.2.2.2.2.2.2.2.2.2.2.2.2.2.2.2.1.2]; exact hi) (by omega)
theorem zl_r8 {K : Option Nat → Option α} (h : zLS G l) : (grR G 3 3 (some l) 8).bind K = K (some (l + 6)) := by
  rw [zp_rR ⟨Nat.le_of_eq h.1.symm, Nat.le_of_eq h.1⟩, h.2.2.2.2.2.2.1]
theorem zl_a6 {K : Int32 → Option α} (h : zLS G l) (hi : i < 320) : (gaI G 100 (some (l + 6)) (Int32.ofNat i)).bind K = K (gI G (l + 6) i) := zp_aI h.2.2.2.2.2.2.2.2.2.2.2.2.2.2.2.2.1.1 (by rw [h.2.2.2.2.2.2.2.2.2.2.2.2.2.2.2.2.1.2]; exact hi) (by omega)
theorem zl_s6 {K : g_G → Option α} (h : zLS G l) (hB : gB E ≤ l) (hi : i < 320) : (gsaI E G (some (l + 6)) (Int32.ofNat i) v).bind K = K (gsI G (l + 6) i v) := zp_saI (by omega) h.2.2.2.2.2.2.2.2.2.2.2.2.2.2.2.2.1.1 (by rw [h.2.2.2.2.2.2.2.2.2.2.2.2.2.2.2.2.1.2]; exact hi) (by omega)
theorem zl_r9 {K : Option Nat → Option α} (h : zLS G l) : (grR G 3 3 (some l) 9).bind K = K (some (l + 7)) := by
  rw [zp_rR ⟨Nat.le_of_eq h.1.symm, Nat.le_of_eq h.1⟩, h.2.2.2.2.2.2.2.1]
theorem zl_a7 {K : Int32 → Option α} (h : zLS G l) (hi : i < 320) : (gaI G 100 (some (l + 7)) (Int32.ofNat i)).bind K = K (gI G (l + 7) i) := zp_aI h.2.2.2.2.2.2.2.2.2.2.2.2.2.2.2.2.2.1.1 (by rw [h.2.2.2.2.2.2.2.2.2.2.2.2.2.2.2.2.2.1.2]; exact hi) (by omega)
theorem zl_s7 {K : g_G → Option α} (h : zLS G l) (hB : gB E ≤ l) (hi : i < 320) : (gsaI E G (some (l + 7)) (Int32.ofNat i) v).bind K = K (gsI G (l + 7) i v) := zp_saI (by omega) h.2.2.2.2.2.2.2.2.2.2.2.2.2.2.2.2.2.1.1 (by rw [h.2.2.2.2.2.2.2.2.2.2.2.2.2.2.2.2.2.1.2]; exact hi) (by omega)
theorem zl_r10 {K : Option Nat → Option α} (h : zLS G l) : (grR G 3 3 (some l) 10).bind K = K (some (l + 8)) := by
  rw [zp_rR ⟨Nat.le_of_eq h.1.symm, Nat.le_of_eq h.1⟩, h.2.2.2.2.2.2.2.2.1]
theorem zl_a8 {K : Int32 → Option α} (h : zLS G l) (hi : i < 320) : (gaI G 100 (some (l + 8)) (Int32.ofNat i)).bind K = K (gI G (l + 8) i) := zp_aI h.2.2.2.2.2.2.2.2.2.2.2.2.2.2.2.2.2.2.1.1 (by rw [h.2.2.2.2.2.2.2.2.2.2.2.2.2.2.2.2.2.2.1.2]; exact hi) (by omega)
theorem zl_s8 {K : g_G → Option α} (h : zLS G l) (hB : gB E ≤ l) (hi : i < 320) : (gsaI E G (some (l + 8)) (Int32.ofNat i) v).bind K = K (gsI G (l + 8) i v) := zp_saI (by omega) h.2.2.2.2.2.2.2.2.2.2.2.2.2.2.2.2.2.2.1.1 (by rw [h.2.2.2.2.2.2.2.2.2.2.2.2.2.2.2.2.2.2.1.2]; exact hi) (by omega)
theorem zl_r11 {K : Option Nat → Option α} (h : zLS G l) : (grR G 3 3 (some l) 11).bind K = K (some (l + 9)) := by
  rw [zp_rR ⟨Nat.le_of_eq h.1.symm, Nat.le_of_eq h.1⟩, h.2.2.2.2.2.2.2.2.2.1]
theorem zl_a9 {K : Int32 → Option α} (h : zLS G l) (hi : i < 320) : (gaI G 100 (some (l + 9)) (Int32.ofNat i)).bind K = K (gI G (l + 9) i) := zp_aI h.2.2.2.2.2.2.2.2.2.2.2.2.2.2.2.2.2.2.2.1.1 (by rw [h.2.2.2.2.2.2.2.2.2.2.2.2.2.2.2.2.2.2.2.1.2]; exact hi) (by omega)
theorem zl_s9 {K : g_G → Option α} (h : zLS G l) (hB : gB E ≤ l) (hi : i < 320) : (gsaI E G (some (l + 9)) (Int32.ofNat i) v).bind K = K (gsI G (l + 9) i v) := zp_saI (by omega) h.2.2.2.2.2.2.2.2.2.2.2.2.2.2.2.2.2.2.2.1.1 (by rw [h.2.2.2.2.2.2.2.2.2.2.2.2.2.2.2.2.2.2.2.1.2]; exact hi) (by omega)
theorem zl_r12 {K : Option Nat → Option α} (h : zLS G l) : (grR G 3 3 (some l) 12).bind K = K (some (l + 10)) := by
  rw [zp_rR ⟨Nat.le_of_eq h.1.symm, Nat.le_of_eq h.1⟩, h.2.2.2.2.2.2.2.2.2.2.1]
theorem zl_a10 {K : Int32 → Option α} (h : zLS G l) (hi : i < 320) : (gaI G 100 (some (l + 10)) (Int32.ofNat i)).bind K = K (gI G (l + 10) i) := zp_aI h.2.2.2.2.2.2.2.2.2.2.2.2.2.2.2.2.2.2.2.2.1 (by rw [h.2.2.2.2.2.2.2.2.2.2.2.2.2.2.2.2.2.2.2.2.2]; exact hi) (by omega)
theorem zl_s10 {K : g_G → Option α} (h : zLS G l) (hB : gB E ≤ l) (hi : i < 320) : (gsaI E G (some (l + 10)) (Int32.ofNat i) v).bind K = K (gsI G (l + 10) i v) := zp_saI (by omega) h.2.2.2.2.2.2.2.2.2.2.2.2.2.2.2.2.2.2.2.2.1 (by rw [h.2.2.2.2.2.2.2.2.2.2.2.2.2.2.2.2.2.2.2.2.2]; exact hi) (by omega)
end ZL
/-- the length as it lies there: below zero if begun -/
def wsl (w : zW) : Int32 := if wbg w = true then -Int32.ofNat (wln w) else Int32.ofNat (wln w)
def zadr (P : zPr) (A : Nat → Nat) (s : Nat) : Option Nat := if s < zN P then some (A s) else none
def zHr (P : zPr) (A : Nat → Nat) (G : g_G) (l h : Nat) (H : zH) : Prop := gR G (l + 1) h = zadr P A (hat H) ∧ gI G (l + 2) h = zb (hst H) ∧ (∀ k, k < 4 → gI G (l + 3) (4 * h + k) = hvr H k) ∧ gI G (l + 4) h = hfr H ∧ gI G (l + 5) h = htd H
def zWr (G : g_G) (l k : Nat) (w : zW) : Prop := wpr w < 64 ∧ (1 ≤ wln w ∧ wln w ≤ 99) ∧ gI G (l + 6) k = Int32.ofNat (wpr w) ∧ gI G (l + 7) k = wmk w ∧ gI G (l + 8) k = wvl w ∧ gI G (l + 9) k = wsl w
/-- a Life says: so many hands, this state, words there at these times -/
def zCL (P : zPr) (A : Nat → Nat) (G : g_G) (l n : Nat) (S : zS) (T : Nat → Int32) : Prop :=
  zLS G l ∧ n ≤ 8 ∧ sm S ≤ 320 ∧ gI G l 0 = Int32.ofNat n ∧ gI G l 1 = Int32.ofNat (sm S) ∧ (∀ h, h < n → zHr P A G l h (sh S h)) ∧ (∀ k, k < sm S → zWr G l k (sw S k)) ∧ ∀ k, k < sm S → gI G (l + 10) k = T k
