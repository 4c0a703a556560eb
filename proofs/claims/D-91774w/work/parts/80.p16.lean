/-! THE PLAIN LAW, 16: each move brings a state on -/
set_option maxRecDepth 100000
def zinvH (P : zPr) (n h : Nat) (H : zH) : Prop := (hat H = 40 ∧ hst H = false) ∨ (hat H < zN P ∧ zkd P (hat H) ≤ 7 ∧ (hst H = false → zkd P (hat H) ≤ 3 → zisO n h (zev P n h H (hat H) 0) = true))
def zphH (H : zH) : Nat := hat H + if hst H = true then 1 else 0
def zsm (f : Nat → Nat) : Nat → Nat
  | 0 => 0
  | k + 1 => zsm f k + f k
def zphi (n : Nat) (S : zS) : Nat := zsm (fun h => zphH (sh S h)) n
def zgood (P : zPr) (n : Nat) (S : zS) : Prop := zinv P n S ∧ sm S ≤ zphi n S
section Z16
variable {P : zPr} {o : Nat → Bool} {n r : Nat} {S : zS}
theorem zinv_H : zinv P n S = ∀ h, h < n → zinvH P n h (sh S h) := rfl
theorem zsm_succ (f : Nat → Nat) (k : Nat) : zsm f (k + 1) = zsm f k + f k := rfl
theorem zsm_le {f g : Nat → Nat} : ∀ {k : Nat}, (∀ j, j < k → f j ≤ g j) → zsm f k ≤ zsm g k
  | 0, _ => Nat.le_refl _
  | k + 1, h => by
    have h1 := zsm_le (k := k) (fun j hj => h j (by omega))
    have h2 := h k (by omega)
    rw [zsm_succ, zsm_succ]
    omega
theorem zsm_lt {f g : Nat → Nat} {i : Nat} : ∀ {k : Nat}, (∀ j, j < k → f j ≤ g j) → i < k → f i < g i → zsm f k + 1 ≤ zsm g k
  | 0, _, hi, _ => absurd hi (Nat.not_lt_zero i)
  | k + 1, h, hi, hl => by
    rw [zsm_succ, zsm_succ]
    have h2 := h k (by omega)
    by_cases c : i = k
    · have h1 := zsm_le (k := k) (fun j hj => h j (by omega))
      subst c
      omega
    · have h1 := zsm_lt (k := k) (fun j hj => h j (by omega)) (by omega) hl
      omega
theorem zsm_bd {f : Nat → Nat} {b : Nat} : ∀ {k : Nat}, (∀ j, j < k → f j ≤ b) → zsm f k ≤ b * k
  | 0, _ => Nat.le_refl _
  | k + 1, h => by
    have h1 := zsm_bd (k := k) (fun j hj => h j (by omega))
    have h2 := h k (by omega)
    rw [zsm_succ, Nat.mul_succ]
    omega
theorem zinvH.ph {h : Nat} {H : zH} (hP : zOk P) (q : zinvH P n h H) : zphH H ≤ 40 := by
  have := hP.1
  unfold zphH
  rcases q with q | q
  · rw [q.2, q.1]
    decide
  · split <;> omega
theorem zphi_bd (hP : zOk P) (hI : zinv P n S) : zphi n S ≤ 40 * n := zsm_bd fun j hj => zinvH.ph (h := j) hP (hI j hj)
theorem zgo_ok (hP : zOk P) {h : Nat} : ∀ f s (H : zH), 40 < f + s → (s < zN P ∨ s = 40) → hst H = false → zinvH P n h (zgo P o n h f s H) ∧ s ≤ hat (zgo P o n h f s H)
  | 0, s, H, hf, hs, _ => by
    have := hP.1
    omega
  | f + 1, s, H, hf, hs, hst0 => by
    have hN := hP.1
    rw [zgo_succ]
    by_cases c : zN P ≤ s
    · rw [if_pos c]
      exact ⟨Or.inl ⟨rfl, hst0⟩, by show s ≤ 40; omega⟩
    · rw [if_neg c]
      obtain ⟨p1, p2, p3, p4, p5⟩ := hP.2 s (by omega)
      by_cases c1 : o s = true
      · rw [if_pos c1]
        have := zgo_ok (h := h) hP f (znx P s) H (by have := p4.1; omega) p4.2 hst0
        exact ⟨this.1, by have := p4.1; omega⟩
      · rw [if_neg c1]
        by_cases c8 : zkd P s = 8
        · rw [if_pos c8]
          have := zgo_ok (h := h) hP f (znx P s) (hat H, hst H, va_up (hvr H) (zvr P s) (zev P n h H s 0), hfr H, htd H) (by have := p4.1; omega) p4.2 hst0
          exact ⟨this.1, by have := p4.1; omega⟩
        · rw [if_neg c8]
          by_cases c9 : zkd P s = 9
          · rw [if_pos c9]
            have := zgo_ok (h := h) hP f (znx P s) (hat H, hst H, hvr H, hfr H, 31 * htd H + zev P n h H s 0) (by have := p4.1; omega) p4.2 hst0
            exact ⟨this.1, by have := p4.1; omega⟩
          · rw [if_neg c9]
            by_cases c10 : zkd P s = 10
            · rw [if_pos c10]
              obtain ⟨p6, p7⟩ := p5 c10
              have pn : zgt P s (if zev P n h H s 0 = 0 then zot P s else zth P s) := by
                split
                · exact p7
                · exact p6
              have := zgo_ok (h := h) hP f _ H (by have := pn.1; omega) pn.2 hst0
              exact ⟨this.1, by have := pn.1; omega⟩
            · rw [if_neg c10]
              refine ⟨Or.inr ⟨by show s < zN P; omega, by show zkd P s ≤ 7; omega, fun q1 q2 => ?_⟩, Nat.le_refl s⟩
              have q1 : (decide (zkd P s ≤ 3) && !zisO n h (zev P n h H s 0)) = false := q1
              have q2 : zkd P s ≤ 3 := q2
              rw [decide_eq_true q2, Bool.true_and] at q1
              have : zisO n h (zev P n h H s 0) = true := by
                cases e : zisO n h (zev P n h H s 0)
                · rw [e] at q1
                  cases q1
                · rfl
              exact this
theorem zgoes_ok (hP : zOk P) {h s : Nat} {H : zH} (hs : s < zN P ∨ s = 40) (hst0 : hst H = false) : zinvH P n h (zgoes P o n h s H) ∧ s ≤ hat (zgoes P o n h s H) := zgo_ok hP 41 s H (by omega) hs hst0
theorem zgoes_ph (hP : zOk P) {h s : Nat} {H J : zH} (hs : s < zN P ∨ s = 40) (hst0 : hst H = false) (hJ : hst J = false) (hl : hat J < s) : zphH J + 1 ≤ zphH (zgoes P o n h s H) := by
  have := (zgoes_ok (o := o) (n := n) (h := h) hP hs hst0).2
  unfold zphH
  rw [hJ]
  simp only [Bool.false_eq_true, ↓reduceIte]
  omega
theorem zup_phi {h : Nat} {H : zH} (hh : h < n) (hl : zphH (sh S h) + 1 ≤ zphH H) : zphi n S + 1 ≤ zphi n (zupH S h H) := by
  unfold zphi
  refine zsm_lt (i := h) (fun j hj => ?_) hh ?_
  · by_cases c : j = h
    · subst c
      rw [zup_h]
      omega
    · rw [zup_o c]
      omega
  · show zphH (sh S h) < zphH (sh (zupH S h H) h)
    rw [zup_h]
    omega
theorem zup_inv {h : Nat} {H : zH} (hI : zinv P n S) (q : zinvH P n h H) : zinv P n (zupH S h H) := fun j hj => by
  by_cases c : j = h
  · subst c
    show zinvH P n j _
    rw [zup_h]
    exact q
  · show zinvH P n j _
    rw [zup_o c]
    exact hI j hj
theorem zgoOn_ok (hP : zOk P) {h : Nat} (hI : zinv P n S) (hh : h < n) (ha : hat (sh S h) < zN P) (hs : hst (sh S h) = false) : zinv P n (zgoOn P o n S h) ∧ zphi n S + 1 ≤ zphi n (zgoOn P o n S h) := by
  obtain ⟨p1, p2, p3, p4, p5⟩ := hP.2 _ ha
  exact ⟨zup_inv hI (zgoes_ok hP p4.2 hs).1, zup_phi hh (zgoes_ph hP p4.2 hs hs p4.1)⟩
theorem zgets_ok (hP : zOk P) {h len : Nat} {f v : Int32} (hI : zinv P n S) (hh : h < n) (ha : hat (sh S h) < zN P) (hs : hst (sh S h) = false) (hk : zK P S h ≤ 7) : zinv P n (zgets P o n S h f v len) ∧ zphi n S + 1 ≤ zphi n (zgets P o n S h f v len) := by
  obtain ⟨p1, p2, p3, p4, p5⟩ := hP.2 _ ha
  unfold zgets zgetH
  split
  · refine ⟨zup_inv hI (Or.inr ⟨ha, hk, fun q => by cases q⟩), zup_phi hh ?_⟩
    unfold zphH
    rw [hs]
    simp only [Bool.false_eq_true, ↓reduceIte]
    exact Nat.le_refl _
  · exact ⟨zup_inv hI (zgoes_ok (H := zput P (sh S h) v f) hP p4.2 hs).1, zup_phi hh (zgoes_ph (H := zput P (sh S h) v f) (J := sh S h) hP p4.2 hs hs p4.1)⟩
theorem zmove_ok (hP : zOk P) (hn : n ≤ 8) {h f : Nat} (hI : zinv P n S) (hh : h < n) (hc : zcan P n r S h f = true) : zinv P n (zmove P o n r S h f) ∧ zphi n S + 1 ≤ zphi n (zmove P o n r S h f) ∧ sm (zmove P o n r S h f) ≤ sm S + 1 := by
  obtain ⟨ha, hs, hv⟩ := zcan_iff.1 hc
  have hN := hP.1
  have hk7 : zK P S h ≤ 7 := by
    rcases hI h hh with w | w
    · omega
    · exact w.2.1
  unfold zmove
  by_cases c2 : zK P S h ≤ 2
  · rw [if_pos c2]
    obtain ⟨t1, t2, t3⟩ := hI.to hn hh ha hN hs (by omega)
    rw [if_pos c2] at hv
    cases hmay : zmay P n r S h
    · rw [if_neg (by decide)]
      rw [hmay, Bool.false_or] at hv
      have hrec : hat (sh S (zto P n S h)) < zN P ∧ hst (sh S (zto P n S h)) = false ∧ (zK P S (zto P n S h) = 3 ∨ zK P S (zto P n S h) = 4) := by
        unfold zhov at hv
        simp only [Bool.and_eq_true, Bool.or_eq_true, zisAt_iff] at hv
        rcases hv.1.1 with w | w
        · exact ⟨w.1.1, w.1.2.1, Or.inl w.1.2.2⟩
        · exact ⟨w.1, w.2.1, Or.inr w.2.2⟩
      obtain ⟨g1, g2⟩ := zgets_ok (o := o) (f := Int32.ofNat h) (v := zwd P n S h) (len := zms P (hat (sh S h))) hP hI t2 hrec.1 hrec.2.1 (by omega)
      have eh : sh (zgets P o n S (zto P n S h) (Int32.ofNat h) (zwd P n S h) (zms P (hat (sh S h)))) h = sh S h := zup_o (Ne.symm t3)
      obtain ⟨g3, g4⟩ := zgoOn_ok (o := o) hP g1 hh (by rw [eh]; exact ha) (by rw [eh]; exact hs)
      exact ⟨g3, by unfold zover; omega, Nat.le_succ _⟩
    · rw [if_pos rfl]
      have g1 : zinv P n (zlie S (8 * h + zto P n S h, zmk P n S h, zwd P n S h, zms P (hat (sh S h)), decide (zK P S h = 2))) := hI
      obtain ⟨g3, g4⟩ := zgoOn_ok (o := o) hP g1 hh ha hs
      exact ⟨g3, g4, Nat.le_refl _⟩
  · rw [if_neg c2]
    rw [if_neg c2] at hv
    by_cases c3 : zK P S h = 3
    · rw [if_pos c3]
      have g1 : ∀ k, zinv P n (zout S k) := fun _ => hI
      obtain ⟨g2, g3⟩ := zgets_ok (o := o) (f := Int32.ofNat (zto P n S h)) (v := wvl (sw S ((zfnd S (zto P n S h) h (zmk P n S h)).getD 0))) (len := wln (sw S ((zfnd S (zto P n S h) h (zmk P n S h)).getD 0))) hP (g1 ((zfnd S (zto P n S h) h (zmk P n S h)).getD 0)) hh ha hs hk7
      exact ⟨g2, g3, by show sm S - 1 ≤ sm S + 1; omega⟩
    · rw [if_neg c3]
      by_cases c4 : zK P S h = 4
      · rw [if_pos c4]
        have g1 : ∀ k, zinv P n (zout S k) := fun _ => hI
        obtain ⟨g2, g3⟩ := zgets_ok (o := o) (f := Int32.ofNat f) (v := wvl (sw S ((zfnd S f h (zmk P n S h)).getD 0))) (len := wln (sw S ((zfnd S f h (zmk P n S h)).getD 0))) hP (g1 ((zfnd S f h (zmk P n S h)).getD 0)) hh ha hs hk7
        exact ⟨g2, g3, by show sm S - 1 ≤ sm S + 1; omega⟩
      · rw [if_neg c4]
        by_cases c5 : zK P S h = 5
        · rw [if_pos c5]
          obtain ⟨g3, g4⟩ := zgoOn_ok (o := o) hP hI hh ha hs
          exact ⟨g3, g4, Nat.le_succ _⟩
        · rw [if_neg c5]
          rw [if_neg c3, if_neg c4, if_neg c5, Bool.and_eq_true] at hv
          have hall := hv.2
          unfold zallAt at hall
          rw [zall_iff] at hall
          have each : ∀ j, j < n → zinvH P n j (sh (ztog P o n S (zK P S h)) j) ∧ zphH (sh S j) + 1 ≤ zphH (sh (ztog P o n S (zK P S h)) j) := fun j hj => by
            obtain ⟨w1, w2, w3⟩ := zisAt_iff.1 (hall j hj)
            obtain ⟨p1, p2, p3, p4, p5⟩ := hP.2 _ w1
            have e : sh (ztog P o n S (zK P S h)) j = ztogH P o n j (sh S j) (zK P S h) (zsum P n S n) := if_pos hj
            rw [e]
            unfold ztogH
            split
            · exact ⟨(zgoes_ok (H := zput P (sh S j) (zsum P n S n) (hfr (sh S j))) hP p4.2 w2).1, zgoes_ph (H := zput P (sh S j) (zsum P n S n) (hfr (sh S j))) (J := sh S j) hP p4.2 w2 w2 p4.1⟩
            · exact ⟨(zgoes_ok (H := sh S j) hP p4.2 w2).1, zgoes_ph (H := sh S j) (J := sh S j) hP p4.2 w2 w2 p4.1⟩
          refine ⟨fun j hj => (each j hj).1, ?_, Nat.le_succ _⟩
          refine zsm_lt (i := h) (fun j hj => ?_) hh ?_
          · have := (each j hj).2
            omega
          · have := (each h hh).2
            show zphH (sh S h) < zphH (sh (ztog P o n S (zK P S h)) h)
            omega
theorem zmove_good (hP : zOk P) (hn : n ≤ 8) {h f : Nat} (hG : zgood P n S) (hh : h < n) (hc : zcan P n r S h f = true) : zgood P n (zmove P o n r S h f) := by
  obtain ⟨h1, h2, h3⟩ := zmove_ok (o := o) hP hn hG.1 hh hc
  exact ⟨h1, by have := hG.2; omega⟩
theorem zgood.m320 (hP : zOk P) (hn : n ≤ 8) {h : Nat} (hG : zgood P n S) (hh : h < n) (hs : hst (sh S h) = false) (ha : hat (sh S h) < zN P) : sm S < 320 := by
  have h1 := hG.2
  have hN := hP.1
  have : zphi n S + 1 ≤ zsm (fun _ => 40) n := zsm_lt (i := h) (fun j hj => zinvH.ph (h := j) hP (hG.1 j hj)) hh (by
    show zphH (sh S h) < 40
    unfold zphH
    rw [hs]
    simp only [Bool.false_eq_true, ↓reduceIte]
    omega)
  have h2 : zsm (fun _ => 40) n ≤ 40 * n := zsm_bd fun _ _ => Nat.le_refl _
  omega
theorem zbeg_good (hP : zOk P) : zgood P n (zbeg P o n) := by
  refine ⟨fun h hh => ?_, Nat.zero_le _⟩
  have e : sh (zbeg P o n) h = zgoes P o n h (zfs P) zH0 := if_pos hh
  show zinvH P n h _
  rw [e]
  exact (zgoes_ok hP zfs_ok rfl).1
end Z16
