/-! THE PLAIN LAW, 11: which moves there are, in the class -/
set_option maxRecDepth 100000
/-- hands stand where they may: ended, or at a step that isn't quiet; who isn't stopped there talks to another -/
def zinv (P : zPr) (n : Nat) (S : zS) : Prop := ∀ h, h < n → (hat (sh S h) = 40 ∧ hst (sh S h) = false) ∨ (hat (sh S h) < zN P ∧ zK P S h ≤ 7 ∧ (hst (sh S h) = false → zK P S h ≤ 3 → zisO n h (zev P n h (sh S h) (hat (sh S h)) 0) = true))
def zmvs (P : zPr) (n r : Nat) (S : zS) (h : Nat) : Int32 := if zK P S h = 4 then zbits (fun o => zcan P n r S h o) n else if zcan P n r S h 0 = true then zbit h else 0
section Z11
variable {P : zPr} {A : Nat → Nat} {E : g_E} {G : g_G} {l n : Nat} {S : zS} {T : Nat → Int32} {R : Nat → Prop} {x : Nat} {o : Nat → Bool}
theorem zinv.wf (h : zinv P n S) : zwf P n S := fun j hj => by
  rcases h j hj with q | q
  · exact Or.inr q.1
  · exact Or.inl q.1
theorem zisO_to {h : Nat} {v : Int32} (hn : n ≤ 8) (q : zisO n h v = true) : v = Int32.ofNat v.toNatClampNeg ∧ v.toNatClampNeg < n ∧ v.toNatClampNeg ≠ h := by
  unfold zisO at q
  simp only [Bool.and_eq_true, decide_eq_true_eq, Bool.not_eq_true', decide_eq_false_iff_not] at q
  obtain ⟨⟨q1, q2⟩, q3⟩ := q
  have e : v = Int32.ofNat v.toNatClampNeg := (Int32.ofNat_toNatClampNeg v q1).symm
  have hlt := v.toNatClampNeg_lt
  refine ⟨e, ?_, fun c => q3 (by rw [e, c])⟩
  rw [e] at q2
  exact (Int32.ofNat_lt_iff_lt (by omega) (by omega)).1 q2
theorem zinv.to (hI : zinv P n S) (hn : n ≤ 8) {h : Nat} (hh : h < n) (ha : hat (sh S h) < zN P) (hN : zN P ≤ 40) (hs : hst (sh S h) = false) (hk : zK P S h ≤ 3) : zev P n h (sh S h) (hat (sh S h)) 0 = Int32.ofNat (zto P n S h) ∧ zto P n S h < n ∧ zto P n S h ≠ h := by
  rcases hI h hh with q | q
  · omega
  · exact zisO_to hn (q.2.2 hs hk)
theorem zc_mayLie {h r : Nat} (hC : zCL P A G l n S T) (hX : zCX R P A G) (hI : zinv P n S) (hh : h < n) (ha : hat (sh S h) < zN P) (hs : hst (sh S h) = false) (hk : zK P S h ≤ 2) (hr : r < 1000) :
    fX1_mayLie E x (some l) (Int32.ofNat h) (Int32.ofNat r) G = some (zb (zmay P n r S h), G) := by
  have hL := hC.1
  have hn := hC.n8
  have h8 : h < 8 := by omega
  have hm := hC.m3
  obtain ⟨q1, -⟩ := (hX.2 _ ha).2.1 hk
  obtain ⟨k1, k2, k3, k4⟩ := hX.1.2.2 _ ha
  have kk : (15 : Nat) ≤ gcl G (A (hat (sh S h))) ∧ gcl G (A (hat (sh S h))) ≤ 15 := by omega
  obtain ⟨t1, t2, t3⟩ := hI.to hn hh ha hX.1.1.1 hs (by omega)
  have tt := zc_to (E := E) hC hX hh ha hk
  rw [t1] at tt
  have hsl := zsent_le (sw S) (8 * h + zto P n S h) (sm S)
  simp only [fX1_mayLie, ↓zl_rI, ↓zl_r3, ↓zl_r4, ↓zl_r5, ↓zl_r6, ↓zl_r7, ↓zl_r8, ↓zl_r9, ↓zl_r10, ↓zl_r11, ↓zl_r12, ↓zl_chk, ↓zl_a1, ↓zl_a2, ↓zl_a3, ↓zl_a4, ↓zl_a5, ↓zl_a6, ↓zl_a7, ↓zl_a8, ↓zl_a9, ↓zl_a10, zLS_I, hL, h8, (hC.hd hh).1, zadr_s ha, zp_cast kk, zp_rI kk, k2, fX1_mayLie_b44, true_or, or_true, ↓reduceIte, zp_chk q1, tt, Option.bind_some, zc_sent hC (show 8 * h + zto P n S h < 64 by omega)]
  unfold zmay zK
  have hk2 : zkd P (hat (sh S h)) = 0 ∨ zkd P (hat (sh S h)) = 1 ∨ zkd P (hat (sh S h)) = 2 := by unfold zK at hk; omega
  rcases hk2 with e | e | e
  · rw [e, if_neg (show ¬ Int32.ofNat 0 = 2 by decide), if_neg (show ¬ ¬ Int32.ofNat 0 = 0 by decide)]
    by_cases c : zsent (sw S) (8 * h + zto P n S h) (sm S) < r
    · rw [if_neg (zi_nle c (by omega))]
      simp [c, zb]
    · rw [if_pos (zi_le (by omega) (by omega))]
      simp [c, zb]
  · rw [e, if_neg (show ¬ Int32.ofNat 1 = 2 by decide), if_pos (show ¬ Int32.ofNat 1 = 0 by decide)]
    rfl
  · rw [e, if_pos (show Int32.ofNat 2 = 2 by decide)]
    rfl
theorem znum_n {r : Option Nat} (h : ∀ i, r = some i → i < 2147483648) : (znum r = -1) = (r.isNone = true) := by
  cases r with
  | none => simp [znum]
  | some i =>
    simp only [znum, Option.isNone_some, Bool.false_eq_true, eq_iff_iff, iff_false]
    intro q
    have h1 := congrArg Int32.toInt q
    rw [Int32.toInt_ofNat_of_lt (by have := h i rfl; omega)] at h1
    have : ((-1 : Int32)).toInt = -1 := rfl
    omega
theorem zfirst_lt (w : Nat → zW) (p : Nat) (mk : Int32) : ∀ d i j, zfirst w p mk d i = some j → i ≤ j ∧ j < i + d ∧ wpr (w j) = p ∧ wmk (w j) = mk
  | 0, i, j, h => by cases h
  | d + 1, i, j, h => by
    rw [zfirst_succ] at h
    by_cases c : wpr (w i) = p ∧ wmk (w i) = mk
    · rw [if_pos c] at h
      cases h
      exact ⟨Nat.le_refl _, by omega, c⟩
    · rw [if_neg c] at h
      have := zfirst_lt w p mk d (i + 1) j h
      exact ⟨by omega, by omega, this.2.2⟩
theorem zfnd_lt {s t : Nat} {mk : Int32} {j : Nat} (h : zfnd S s t mk = some j) : j < sm S ∧ wpr (sw S j) = 8 * s + t ∧ wmk (sw S j) = mk := by
  have := zfirst_lt _ _ _ _ _ _ h
  exact ⟨by omega, this.2.2⟩
theorem zfnd_n {s t : Nat} {mk : Int32} (hm : sm S ≤ 320) : (znum (zfnd S s t mk) = -1) = ((zfnd S s t mk).isNone = true) := znum_n fun i hi => by have := (zfnd_lt hi).1; omega
theorem zisAt_iff {H : zH} {k : Nat} : zisAt P H k = true ↔ hat H < zN P ∧ hst H = false ∧ zkd P (hat H) = k := by
  unfold zisAt
  simp only [Bool.and_eq_true, decide_eq_true_eq, Bool.not_eq_true', and_assoc]
theorem zc_hov_b48 {h t : Nat} (hC : zCL P A G l n S T) (hX : zCX R P A G) (hI : zinv P n S) (hh : h < n) (ht : t < n) (ha : hat (sh S t) < zN P) (hs : hst (sh S t) = false) (hk : zK P S t = 3 ∨ zK P S t = 4) (mk : Int32) :
    fX1_handsOver_b48 E (some l) (Int32.ofNat h) (Int32.ofNat t) mk G = some (zb ((decide (zK P S t = 4) || decide (zto P n S t = h)) && decide (zmk P n S t = mk) && (zfnd S h t mk).isNone), G) := by
  have hL := hC.1
  have hn := hC.n8
  have t8 : t < 8 := by omega
  have hm := hC.m3
  obtain ⟨q1, -⟩ := (hX.2 _ ha).2.2.1 hk
  have kk : (16 : Nat) ≤ gcl G (A (hat (sh S t))) ∧ gcl G (A (hat (sh S t))) ≤ 16 := by omega
  have mm := zc_mark (E := E) hC hX ht ha (show zkd P (hat (sh S t)) ≤ 4 by unfold zK at hk; omega)
  have tk : fX13_takes E (A (hat (sh S t))) (some l) (Int32.ofNat t) (Int32.ofNat h) G = some (zb (decide (zK P S t = 4) || decide (zto P n S t = h)), G) := by
    rcases hk with c | c
    · obtain ⟨t1, t2, t3⟩ := hI.to hn ht ha hX.1.1.1 hs (by omega)
      rw [zc_takesW hC hX ht ha c, t1, decide_eq_false (show ¬ zK P S t = 4 by omega), Bool.false_or, decide_eq_decide.2 (by rw [zi_eq (by omega) (by omega)])]
    · rw [zc_takesA hX ha c, decide_eq_true c, Bool.true_or]
      rfl
  simp only [fX1_handsOver_b48, ↓zl_rI, ↓zl_r3, ↓zl_r4, ↓zl_r5, ↓zl_r6, ↓zl_r7, ↓zl_r8, ↓zl_r9, ↓zl_r10, ↓zl_r11, ↓zl_r12, ↓zl_chk, ↓zl_a1, ↓zl_a2, ↓zl_a3, ↓zl_a4, ↓zl_a5, ↓zl_a6, ↓zl_a7, ↓zl_a8, ↓zl_a9, ↓zl_a10, zLS_I, hL, t8, (hC.hd ht).1, zadr_s ha, zp_cast kk, zp_chk q1, tk, mm, Option.bind_some, zc_first hC (show 8 * h + t < 64 by omega), zfnd_n hm, zb_0, true_or, or_true, ↓reduceIte]
  have em : zev P n t (sh S t) (hat (sh S t)) 1 = zmk P n S t := rfl
  rw [em]
  cases c1 : (decide (zK P S t = 4) || decide (zto P n S t = h))
  · rfl
  · rw [if_neg (by decide)]
    by_cases c2 : zmk P n S t = mk
    · rw [if_neg (fun q => q c2), decide_eq_true c2]
      cases c3 : zfnd S h t mk <;> simp [zb]
    · rw [if_pos c2, decide_eq_false c2]
      rfl
theorem zc_hov {h : Nat} (hC : zCL P A G l n S T) (hX : zCX R P A G) (hI : zinv P n S) (hh : h < n) (ha : hat (sh S h) < zN P) (hs : hst (sh S h) = false) (hk : zK P S h ≤ 2) :
    fX1_handsOver E x (some l) (Int32.ofNat h) G = some (zb (zhov P n S h), G) := by
  have hL := hC.1
  have hn := hC.n8
  have h8 : h < 8 := by omega
  obtain ⟨q1, -⟩ := (hX.2 _ ha).2.1 hk
  have kk : (15 : Nat) ≤ gcl G (A (hat (sh S h))) ∧ gcl G (A (hat (sh S h))) ≤ 15 := by omega
  obtain ⟨t1, t2, t3⟩ := hI.to hn hh ha hX.1.1.1 hs (by omega)
  have tt := zc_to (E := E) hC hX hh ha hk
  rw [t1] at tt
  have mm := zc_mark (E := E) hC hX hh ha (show zkd P (hat (sh S h)) ≤ 4 by unfold zK at hk; omega)
  have i3 := zc_isAt (E := E) hC hX.1 t2 (k := 3) (by omega)
  have i4 := zc_isAt (E := E) hC hX.1 t2 (k := 4) (by omega)
  have e3 : Int32.ofNat 3 = 3 := rfl
  have e4 : Int32.ofNat 4 = 4 := rfl
  rw [e3] at i3
  rw [e4] at i4
  simp only [fX1_handsOver, ↓zl_rI, ↓zl_r3, ↓zl_r4, ↓zl_r5, ↓zl_r6, ↓zl_r7, ↓zl_r8, ↓zl_r9, ↓zl_r10, ↓zl_r11, ↓zl_r12, ↓zl_chk, ↓zl_a1, ↓zl_a2, ↓zl_a3, ↓zl_a4, ↓zl_a5, ↓zl_a6, ↓zl_a7, ↓zl_a8, ↓zl_a9, ↓zl_a10, zLS_I, hL, h8, (hC.hd hh).1, zadr_s ha, zp_cast kk, zp_chk q1, tt, mm, i3, i4, Option.bind_some, zb_n0, true_or, or_true, ↓reduceIte]
  have em : zev P n h (sh S h) (hat (sh S h)) 1 = zmk P n S h := rfl
  rw [em]
  unfold zhov
  cases c3 : zisAt P (sh S (zto P n S h)) 3
  · cases c4 : zisAt P (sh S (zto P n S h)) 4
    · rfl
    · obtain ⟨u1, u2, u3⟩ := zisAt_iff.1 c4
      rw [if_neg (by decide), if_pos rfl, zc_hov_b48 hC hX hI hh t2 u1 u2 (Or.inr u3), decide_eq_true (show zK P S (zto P n S h) = 4 from u3)]
      simp
  · obtain ⟨u1, u2, u3⟩ := zisAt_iff.1 c3
    have c4 : zisAt P (sh S (zto P n S h)) 4 = false := by
      rw [← Bool.not_eq_true, zisAt_iff]
      omega
    rw [if_pos rfl, zc_hov_b48 hC hX hI hh t2 u1 u2 (Or.inl u3), decide_eq_false (show ¬ zK P S (zto P n S h) = 4 by unfold zK; omega), c4]
    simp
theorem zbits_false {f : Nat → Bool} : ∀ {k : Nat}, (∀ j, j < k → f j = false) → zbits f k = 0
  | 0, _ => rfl
  | k + 1, h => by rw [zbits_succ, h k (by omega), if_neg (by decide), zbits_false (fun j hj => h j (by omega))]
theorem zbits_congr {f g : Nat → Bool} : ∀ {k : Nat}, (∀ j, j < k → f j = g j) → zbits f k = zbits g k
  | 0, _ => rfl
  | k + 1, h => by rw [zbits_succ, zbits_succ, h k (by omega), zbits_congr (fun j hj => h j (by omega))]
theorem zc_moves_b145 {h r : Nat} (hC : zCL P A G l n S T) (hX : zCX R P A G) (hh : h < n) (ha : hat (sh S h) < zN P) (hs : hst (sh S h) = false) (hk : zK P S h = 4) : ∀ d f i, n - i = d → i ≤ n → d < f →
    fX1_moves_b145 E f (some l) (Int32.ofNat h) (zbits (fun o => zcan P n r S h o) i) (Int32.ofNat i) G = some (zbits (fun o => zcan P n r S h o) n, G)
  | d, f, i, hd, hi, hf => by
    obtain ⟨f, rfl⟩ := z_suc hf
    have hL := hC.1
    have hn := hC.n8
    have h8 : h < 8 := by omega
    have hm := hC.m3
    rw [fX1_moves_b145]
    simp only [↓zl_rI, ↓zl_r3, ↓zl_r4, ↓zl_r5, ↓zl_r6, ↓zl_r7, ↓zl_r8, ↓zl_r9, ↓zl_r10, ↓zl_r11, ↓zl_r12, ↓zl_chk, ↓zl_a1, ↓zl_a2, ↓zl_a3, ↓zl_a4, ↓zl_a5, ↓zl_a6, ↓zl_a7, ↓zl_a8, ↓zl_a9, ↓zl_a10, zLS_I, hL, hC.I0]
    cases d with
    | zero =>
      obtain rfl : i = n := by omega
      rw [if_pos (zi_le (by omega) (by omega))]
    | succ d =>
      obtain ⟨q1, -⟩ := (hX.2 _ ha).2.2.1 (Or.inr hk)
      have kk : (16 : Nat) ≤ gcl G (A (hat (sh S h))) ∧ gcl G (A (hat (sh S h))) ≤ 16 := by omega
      have mm := zc_mark (E := E) hC hX hh ha (show zkd P (hat (sh S h)) ≤ 4 by unfold zK at hk; omega)
      have ih := zc_moves_b145 (r := r) hC hX hh ha hs hk d f (i + 1) (by omega) (by omega) (by omega)
      have em : zev P n h (sh S h) (hat (sh S h)) 1 = zmk P n S h := rfl
      have ec : zcan P n r S h i = (!decide (i = h) && (zfnd S i h (zmk P n S h)).isSome) := by
        unfold zcan
        rw [decide_eq_true ha, hs, if_neg (by omega), if_neg (by omega), if_pos hk]
        rfl
      rw [zbits_succ, ec] at ih
      rw [if_neg (zi_nle (by omega) (by omega))]
      simp only [fX1_moves_b194, zi_inc, zi_eq (show i < 2147483648 by omega) (show h < 2147483648 by omega), ↓zl_rI, ↓zl_r3, ↓zl_r4, ↓zl_r5, ↓zl_r6, ↓zl_r7, ↓zl_r8, ↓zl_r9, ↓zl_r10, ↓zl_r11, ↓zl_r12, ↓zl_chk, ↓zl_a1, ↓zl_a2, ↓zl_a3, ↓zl_a4, ↓zl_a5, ↓zl_a6, ↓zl_a7, ↓zl_a8, ↓zl_a9, ↓zl_a10, zLS_I, hL, h8, (hC.hd hh).1, zadr_s ha, zp_cast kk, zp_chk q1, mm, em, Option.bind_some, zc_first hC (show 8 * i + h < 64 by omega), zfnd_n hm]
      by_cases c : i = h
      · rw [if_pos c]
        rw [decide_eq_true c] at ih
        simp only [Bool.not_true, Bool.false_and, Bool.false_eq_true, ↓reduceIte] at ih
        exact ih
      · rw [if_neg c]
        rw [decide_eq_false c] at ih
        cases c2 : zfnd S i h (zmk P n S h) with
        | none =>
          rw [c2] at ih
          simp only [Option.isSome_none, Bool.and_false, Bool.false_eq_true, ↓reduceIte] at ih
          rw [if_pos (by rfl)]
          exact ih
        | some j =>
          rw [c2] at ih
          simp only [Option.isSome_some, Bool.not_false, Bool.and_self, ↓reduceIte] at ih
          rw [if_neg (by simp)]
          exact ih
theorem zmvs_o {h r : Nat} (hk : zK P S h ≠ 4) : zmvs P n r S h = if zcan P n r S h 0 = true then zbit h else 0 := if_neg hk
theorem zc_moves {h r : Nat} (hC : zCL P A G l n S T) (hX : zCt R P A E G x o) (hI : zinv P n S) (hh : h < n) (hr : r < 1000) :
    fX1_moves E x (some l) (Int32.ofNat h) (Int32.ofNat r) G = some (zmvs P n r S h, G) := by
  have hL := hC.1
  have hXS := hX.1
  have hXX := hX.2.1
  have hn := hC.n8
  have h8 : h < 8 := by omega
  have hm := hC.m3
  simp only [fX1_moves, ↓zl_rI, ↓zl_r3, ↓zl_r4, ↓zl_r5, ↓zl_r6, ↓zl_r7, ↓zl_r8, ↓zl_r9, ↓zl_r10, ↓zl_r11, ↓zl_r12, ↓zl_chk, ↓zl_a1, ↓zl_a2, ↓zl_a3, ↓zl_a4, ↓zl_a5, ↓zl_a6, ↓zl_a7, ↓zl_a8, ↓zl_a9, ↓zl_a10, zLS_I, hL, zc_ended hC hh, Option.bind_some, h8, (hC.hd hh).2.1, zb_n0, zb_0]
  by_cases ha : hat (sh S h) < zN P
  · rw [decide_eq_true ha, if_neg (by decide)]
    cases hs : hst (sh S h)
    · obtain ⟨k1, k2, k3, k4⟩ := hXX.1.2.2 _ ha
      rw [if_pos rfl, (hC.hd hh).1, zadr_s ha, zp_rI k1, k2]
      have hk7 : zkd P (hat (sh S h)) ≤ 7 := by
        rcases hI h hh with q | q
        · have := hXX.1.1.1
          omega
        · exact q.2.1
      have ec : ∀ f, zcan P n r S h f = (if zK P S h ≤ 2 then zmay P n r S h || zhov P n S h
         else if zK P S h = 3 then (zfnd S (zto P n S h) h (zmk P n S h)).isSome
         else if zK P S h = 4 then !decide (f = h) && (zfnd S f h (zmk P n S h)).isSome
         else if zK P S h = 5 then decide (zbgn (sw S) h (sm S) = 0)
         else decide (h = 0) && zallAt P n S (zK P S h)) := fun f => by
        unfold zcan
        rw [decide_eq_true ha, hs]
        rfl
      have k012 : zK P S h ≤ 2 → (gchk G 1 (some x)).bind (fun b76 => (fX1_mayLie E b76 (some l) (Int32.ofNat h) (Int32.ofNat r) G).bind fun z76 =>
          if ¬ z76.1 = 0 then fX1_moves_b91 E (1 <<< (Int32.ofNat h &&& 31)) z76.2
          else (gchk z76.2 1 (some x)).bind fun b85 => (fX1_handsOver E b85 (some l) (Int32.ofNat h) z76.2).bind fun z85 => if z85.1 = 0 then some (0, z85.2) else fX1_moves_b91 E (1 <<< (Int32.ofNat h &&& 31)) z85.2) = some (zmvs P n r S h, G) := fun hk => by
        simp only [↓zx_rI, ↓zx_rT, ↓zx_chk, ↓zx_ce, ↓zx_r5, ↓zx_r6, ↓zx_r7, ↓zx_r8, ↓zx_r9, ↓zx_r12, ↓zx_r16, ↓zx_r17, ↓zx_r19, ↓zx_r20, ↓zx_r22, ↓zx_r23, ↓zx_r24, ↓zx_r28, ↓zx_r29, ↓zx_r30, ↓zx_r32, ↓zx_a4, ↓zx_a5, ↓zx_a6, ↓zx_a7, ↓zx_a8, ↓zx_a9, ↓zx_a12, ↓zx_a13, ↓zx_a25, ↓zx_a26, ↓zx_a27, ↓zx_a28, ↓zx_a29, ↓zx_a30, zXS_I, hXS, zc_mayLie hC hXX hI hh ha hs hk hr, zc_hov hC hXX hI hh ha hs hk, Option.bind_some, zb_0, fX1_moves_b91]
        rw [zmvs_o (by omega), ec, if_pos hk]
        cases zmay P n r S h <;> cases zhov P n S h <;> rfl
      have cases7 : zkd P (hat (sh S h)) = 0 ∨ zkd P (hat (sh S h)) = 1 ∨ zkd P (hat (sh S h)) = 2 ∨ zkd P (hat (sh S h)) = 3 ∨ zkd P (hat (sh S h)) = 4 ∨ zkd P (hat (sh S h)) = 5 ∨ zkd P (hat (sh S h)) = 6 ∨ zkd P (hat (sh S h)) = 7 := by omega
      rcases cases7 with e | e | e | e | e | e | e | e
      · rw [e, if_pos (show Int32.ofNat 0 = 0 from rfl)]
        exact k012 (by unfold zK; omega)
      · rw [e, if_neg (show ¬ Int32.ofNat 1 = 0 by decide), if_pos (show Int32.ofNat 1 = 1 from rfl)]
        exact k012 (by unfold zK; omega)
      · rw [e, if_neg (show ¬ Int32.ofNat 2 = 0 by decide), if_neg (show ¬ Int32.ofNat 2 = 1 by decide), if_pos (show Int32.ofNat 2 = 2 from rfl)]
        exact k012 (by unfold zK; omega)
      · rw [e, if_neg (show ¬ Int32.ofNat 3 = 0 by decide), if_neg (show ¬ Int32.ofNat 3 = 1 by decide), if_neg (show ¬ Int32.ofNat 3 = 2 by decide), if_pos (show Int32.ofNat 3 = 3 from rfl)]
        have eK : zK P S h = 3 := e
        obtain ⟨q1, -⟩ := (hXX.2 _ ha).2.2.1 (Or.inl e)
        have kk : (16 : Nat) ≤ gcl G (A (hat (sh S h))) ∧ gcl G (A (hat (sh S h))) ≤ 16 := by omega
        obtain ⟨t1, t2, t3⟩ := hI.to hn hh ha hXX.1.1.1 hs (by omega)
        have tt := zc_of (E := E) hC hXX hh ha e
        rw [t1] at tt
        have mm := zc_mark (E := E) hC hXX hh ha (show zkd P (hat (sh S h)) ≤ 4 by omega)
        have em : zev P n h (sh S h) (hat (sh S h)) 1 = zmk P n S h := rfl
        rw [em] at mm
        simp only [zp_cast kk, zp_chk q1, tt, mm, Option.bind_some, ↓zl_rI, ↓zl_r3, ↓zl_r4, ↓zl_r5, ↓zl_r6, ↓zl_r7, ↓zl_r8, ↓zl_r9, ↓zl_r10, ↓zl_r11, ↓zl_r12, ↓zl_chk, ↓zl_a1, ↓zl_a2, ↓zl_a3, ↓zl_a4, ↓zl_a5, ↓zl_a6, ↓zl_a7, ↓zl_a8, ↓zl_a9, ↓zl_a10, zLS_I, hL, zc_first hC (show 8 * zto P n S h + h < 64 by omega), zfnd_n hm]
        rw [zmvs_o (by omega), ec, if_neg (show ¬ zK P S h ≤ 2 by omega), if_pos eK]
        cases zfnd S (zto P n S h) h (zmk P n S h) <;> rfl
      · rw [e, if_neg (show ¬ Int32.ofNat 4 = 0 by decide), if_neg (show ¬ Int32.ofNat 4 = 1 by decide), if_neg (show ¬ Int32.ofNat 4 = 2 by decide), if_neg (show ¬ Int32.ofNat 4 = 3 by decide), if_pos (show Int32.ofNat 4 = 4 from rfl)]
        unfold zmvs
        rw [if_pos (show zK P S h = 4 from e)]
        exact zc_moves_b145 hC hXX hh ha hs e n gFU 0 (by omega) (by omega) (z_F _ (by omega))
      · rw [e, if_neg (show ¬ Int32.ofNat 5 = 0 by decide), if_neg (show ¬ Int32.ofNat 5 = 1 by decide), if_neg (show ¬ Int32.ofNat 5 = 2 by decide), if_neg (show ¬ Int32.ofNat 5 = 3 by decide), if_neg (show ¬ Int32.ofNat 5 = 4 by decide), if_pos (show Int32.ofNat 5 = 5 from rfl)]
        have eK : zK P S h = 5 := e
        simp only [zc_begun hC h8, Option.bind_some]
        rw [zmvs_o (by omega), ec, if_neg (show ¬ zK P S h ≤ 2 by omega), if_neg (show ¬ zK P S h = 3 by omega), if_neg (show ¬ zK P S h = 4 by omega), if_pos eK]
        by_cases c : zbgn (sw S) h (sm S) = 0
        · rw [if_neg (fun q => q c), decide_eq_true c]
          rfl
        · rw [if_pos c, decide_eq_false c]
          rfl
      all_goals
        rw [e]
        rw [if_neg (by decide), if_neg (by decide), if_neg (by decide), if_neg (by decide), if_neg (by decide), if_neg (by decide)]
        have eK : zK P S h = _ := e
        rw [zmvs_o (by omega), ec, if_neg (show ¬ zK P S h ≤ 2 by omega), if_neg (show ¬ zK P S h = 3 by omega), if_neg (show ¬ zK P S h = 4 by omega), if_neg (show ¬ zK P S h = 5 by omega), eK]
        by_cases c : h = 0
        · rw [if_neg (show ¬ ¬ Int32.ofNat h = 0 by rw [c]; decide), decide_eq_true c]
          simp only [↓zl_rI, ↓zl_r3, ↓zl_r4, ↓zl_r5, ↓zl_r6, ↓zl_r7, ↓zl_r8, ↓zl_r9, ↓zl_r10, ↓zl_r11, ↓zl_r12, ↓zl_chk, ↓zl_a1, ↓zl_a2, ↓zl_a3, ↓zl_a4, ↓zl_a5, ↓zl_a6, ↓zl_a7, ↓zl_a8, ↓zl_a9, ↓zl_a10, zLS_I, hL, h8, (hC.hd hh).1, zadr_s ha, zp_rI k1, k2, e, ↓zx_rI, ↓zx_rT, ↓zx_chk, ↓zx_ce, ↓zx_r5, ↓zx_r6, ↓zx_r7, ↓zx_r8, ↓zx_r9, ↓zx_r12, ↓zx_r16, ↓zx_r17, ↓zx_r19, ↓zx_r20, ↓zx_r22, ↓zx_r23, ↓zx_r24, ↓zx_r28, ↓zx_r29, ↓zx_r30, ↓zx_r32, ↓zx_a4, ↓zx_a5, ↓zx_a6, ↓zx_a7, ↓zx_a8, ↓zx_a9, ↓zx_a12, ↓zx_a13, ↓zx_a25, ↓zx_a26, ↓zx_a27, ↓zx_a28, ↓zx_a29, ↓zx_a30, zXS_I, hXS, zc_allAt hC hXX.1 (show 6 < 100 by omega), zc_allAt hC hXX.1 (show 7 < 100 by omega), Option.bind_some, zb_0]
          first
          | (cases zallAt P n S 6 <;> rfl)
          | (cases zallAt P n S 7 <;> rfl)
        · rw [if_pos (show ¬ Int32.ofNat h = 0 from fun q => c (zi_inj (b := 0) (by omega) (by omega) q)), decide_eq_false c]
          rfl
    · rw [if_neg (by decide)]
      have ec : ∀ f, zcan P n r S h f = false := fun f => by
        unfold zcan
        rw [hs]
        simp
      unfold zmvs
      rw [ec, zbits_false (fun j _ => ec j)]
      split <;> rfl
  · rw [decide_eq_false ha, if_pos (by decide)]
    have ec : ∀ f, zcan P n r S h f = false := fun f => by
      unfold zcan
      rw [decide_eq_false ha]
      rfl
    unfold zmvs
    rw [ec, zbits_false (fun j _ => ec j)]
    split <;> rfl
end Z11
