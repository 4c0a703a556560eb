/-! THE PLAIN LAW, 27: for whom a hand waits; rings -/
set_option maxRecDepth 100000
/-- for whom a hand waits -/
def zwp (P : zPr) (n : Nat) (S : zS) (h : Nat) : Nat → Bool := fun j =>
  decide (hat (sh S h) < zN P) && !hst (sh S h) &&
  (if zK P S h ≤ 3 then decide (j = zto P n S h)
   else if zK P S h = 4 then !decide (j = h) && decide (hat (sh S j) < zN P)
   else if zK P S h = 5 then zany (fun k => decide (wpr (sw S k) = 8 * h + j) && wbg (sw S k)) (sm S)
   else !zisAt P (sh S j) (zK P S h))
section Z27
variable {P : zPr} {A : Nat → Nat} {E : g_E} {G : g_G} {l n : Nat} {S : zS} {T : Nat → Int32} {R : Nat → Prop} {x tx r : Nat} {o : Nat → Bool}
theorem zor_bit2 : ∀ t, t < 8 → ∀ m, m < 256 → Int32.ofNat m ||| zbit t = Int32.ofNat (if (m / 2 ^ t) % 2 = 1 then m else m + 2 ^ t) := by decide +kernel
theorem zand_bit2 : ∀ t, t < 8 → ∀ m, m < 256 → Int32.ofNat m &&& (zbit t ^^^ (-1)) = Int32.ofNat (if (m / 2 ^ t) % 2 = 1 then m - 2 ^ t else m) := by decide +kernel
theorem zbn_set (f : Nat → Bool) (t : Nat) : ∀ n, t < n → zbn (fun j => f j || decide (j = t)) n = if f t = true then zbn f n else zbn f n + 2 ^ t
  | 0, h => absurd h (Nat.not_lt_zero t)
  | n + 1, h => by
    rw [zbn_succ, zbn_succ]
    by_cases c : t = n
    · subst c
      have e : zbn (fun j => f j || decide (j = t)) t = zbn f t := by
        have : ∀ k, k ≤ t → zbn (fun j => f j || decide (j = t)) k = zbn f k := fun k => by
          induction k with
          | zero => intro _; rfl
          | succ k ih =>
            intro hk
            rw [zbn_succ, zbn_succ, ih (by omega), decide_eq_false (show ¬ k = t by omega), Bool.or_false]
        exact this t (Nat.le_refl _)
      rw [e]
      cases q : f t <;> simp
    · rw [zbn_set f t n (by omega), decide_eq_false (show ¬ n = t by omega), Bool.or_false]
      cases q : f t <;> cases q2 : f n <;> simp <;> omega
theorem zbn_clr (f : Nat → Bool) (t : Nat) : ∀ n, t < n → zbn (fun j => !decide (j = t) && f j) n = if f t = true then zbn f n - 2 ^ t else zbn f n
  | 0, h => absurd h (Nat.not_lt_zero t)
  | n + 1, h => by
    rw [zbn_succ, zbn_succ]
    by_cases c : t = n
    · subst c
      have e : zbn (fun j => !decide (j = t) && f j) t = zbn f t := by
        have : ∀ k, k ≤ t → zbn (fun j => !decide (j = t) && f j) k = zbn f k := fun k => by
          induction k with
          | zero => intro _; rfl
          | succ k ih =>
            intro hk
            rw [zbn_succ, zbn_succ, ih (by omega), decide_eq_false (show ¬ k = t by omega), Bool.not_false, Bool.true_and]
        exact this t (Nat.le_refl _)
      rw [e]
      cases q : f t <;> simp
    · have hb := zbn_bit f t n (by omega)
      have hl : f t = true → 2 ^ t ≤ zbn f n := fun q => by
        rw [q, if_pos rfl] at hb
        rcases Nat.lt_or_ge (zbn f n) (2 ^ t) with w | w
        · rw [Nat.div_eq_of_lt w] at hb
          exact absurd hb (by decide)
        · exact w
      rw [zbn_clr f t n (by omega), decide_eq_false (show ¬ n = t by omega), Bool.not_false, Bool.true_and]
      cases q : f t <;> cases q2 : f n <;> simp
      exact (Nat.sub_add_comm (hl q)).symm
theorem zbits_or (f : Nat → Bool) {n t : Nat} (hn : n ≤ 8) (ht : t < n) : zbits f n ||| zbit t = zbits (fun j => f j || decide (j = t)) n := by
  have hl2 : zbn f n < 256 := Nat.lt_of_lt_of_le (zbn_lt f n) (Nat.pow_le_pow_right (n := 2) (by omega) hn : 2 ^ n ≤ 2 ^ 8)
  rw [zbits_n _ n hn, zbits_n _ n hn, zor_bit2 t (by omega) _ hl2, zbn_bit f t n ht, zbn_set f t n ht]
  cases f t <;> simp
theorem zbits_and (f : Nat → Bool) {n t : Nat} (hn : n ≤ 8) (ht : t < n) : zbits f n &&& (zbit t ^^^ (-1)) = zbits (fun j => !decide (j = t) && f j) n := by
  have hl2 : zbn f n < 256 := Nat.lt_of_lt_of_le (zbn_lt f n) (Nat.pow_le_pow_right (n := 2) (by omega) hn : 2 ^ n ≤ 2 ^ 8)
  rw [zbits_n _ n hn, zbits_n _ n hn, zand_bit2 t (by omega) _ hl2, zbn_bit f t n ht, zbn_clr f t n ht]
  cases f t <;> simp
theorem zbits_one' {t : Nat} (ht : t < n) : zbits (fun j => decide (j = t)) n = zbit t := by
  have := zbits_one (b := true) (h := t) n
  rw [if_pos ⟨ht, rfl⟩] at this
  rw [← this]
  exact zbits_congr fun j _ => by rw [Bool.and_true]
theorem zbgn_bits {w : Nat → zW} {h : Nat} : ∀ m, (∀ k, k < m → wpr (w k) < 64 ∧ wpr (w k) % 8 < n) → n ≤ 8 → zbgn w h m = zbits (fun j => zany (fun k => decide (wpr (w k) = 8 * h + j) && wbg (w k)) m) n
  | 0, _, _ => (zbits_false (fun j _ => rfl)).symm
  | m + 1, hw, hn => by
    obtain ⟨w1, w2⟩ := hw m (by omega)
    rw [zbgn_succ, zbgn_bits m (fun k hk => hw k (by omega)) hn]
    by_cases c : wpr (w m) / 8 = h ∧ wbg (w m) = true
    · rw [if_pos c, zbits_or _ hn w2]
      refine zbits_congr fun j hj => ?_
      rw [zany_succ, c.2, Bool.and_true]
      congr 1
      rw [decide_eq_decide]
      omega
    · rw [if_neg c]
      refine zbits_congr fun j hj => ?_
      rw [zany_succ]
      have : (decide (wpr (w m) = 8 * h + j) && wbg (w m)) = false := by
        cases q : wbg (w m)
        · rw [Bool.and_false]
        · rw [Bool.and_true, decide_eq_false]
          intro e
          exact c ⟨by omega, q⟩
      rw [this, Bool.or_false]
/-- words lie between hands there are -/
def zwok (n : Nat) (S : zS) : Prop := ∀ k, k < sm S → wpr (sw S k) < 64 ∧ wpr (sw S k) % 8 < n
theorem zc_wait_b124 {h k : Nat} (hC : zCL P A G l n S T) (hX : zCX R P A G) (hh : h < n) (ha : hat (sh S h) < zN P) (hk : zkd P (hat (sh S h)) = k) : ∀ d f i, n - i = d → i ≤ n → d < f →
    fX1_waitsFor_b124 E f (some l) (Int32.ofNat h) (zbits (fun j => !zisAt P (sh S j) k) i) (Int32.ofNat i) G = some (zbits (fun j => !zisAt P (sh S j) k) n, G)
  | d, f, i, hd, hi, hf => by
    obtain ⟨f, rfl⟩ := z_suc hf
    have hL := hC.1
    have hn := hC.n8
    have h8 : h < 8 := by omega
    obtain ⟨k1, k2, k3, k4⟩ := hX.1.2.2 _ ha
    have k100 : k < 100 := by have := (hX.1.1.2 _ ha).1; omega
    rw [fX1_waitsFor_b124]
    simp only [↓zl_rI, ↓zl_r3, ↓zl_r4, ↓zl_r5, ↓zl_r6, ↓zl_r7, ↓zl_r8, ↓zl_r9, ↓zl_r10, ↓zl_r11, ↓zl_r12, ↓zl_chk, ↓zl_a1, ↓zl_a2, ↓zl_a3, ↓zl_a4, ↓zl_a5, ↓zl_a6, ↓zl_a7, ↓zl_a8, ↓zl_a9, ↓zl_a10, zLS_I, hL, hC.I0]
    cases d with
    | zero =>
      obtain rfl : i = n := by omega
      rw [if_pos (zi_le (by omega) (by omega))]
    | succ d =>
      have ih := zc_wait_b124 (k := k) hC hX hh ha hk d f (i + 1) (by omega) (by omega) (by omega)
      rw [zbits_succ] at ih
      rw [if_neg (zi_nle (by omega) (by omega))]
      simp only [↓zl_rI, ↓zl_r3, ↓zl_r4, ↓zl_r5, ↓zl_r6, ↓zl_r7, ↓zl_r8, ↓zl_r9, ↓zl_r10, ↓zl_r11, ↓zl_r12, ↓zl_chk, ↓zl_a1, ↓zl_a2, ↓zl_a3, ↓zl_a4, ↓zl_a5, ↓zl_a6, ↓zl_a7, ↓zl_a8, ↓zl_a9, ↓zl_a10, zLS_I, hL, h8, (hC.hd hh).1, zadr_s ha, zp_rI k1, k2, hk, zc_isAt hC hX.1 (show i < n by omega) k100, Option.bind_some, fX1_waitsFor_b160, zi_inc, zb_n0]
      cases c : zisAt P (sh S i) k
      · rw [c] at ih
        rw [if_neg (by decide)]
        rw [if_pos (by decide)] at ih
        exact ih
      · rw [c] at ih
        rw [if_pos rfl]
        rw [if_neg (by decide)] at ih
        exact ih
theorem zc_wait {h : Nat} (hC : zCL P A G l n S T) (hX : zCX R P A G) (hI : zinv P n S) (hw : zwok n S) (hh : h < n) : fX1_waitsFor E x (some l) (Int32.ofNat h) G = some (zbits (zwp P n S h) n, G) := by
  have hL := hC.1
  have hn := hC.n8
  have h8 : h < 8 := by omega
  simp only [fX1_waitsFor, ↓zl_rI, ↓zl_r3, ↓zl_r4, ↓zl_r5, ↓zl_r6, ↓zl_r7, ↓zl_r8, ↓zl_r9, ↓zl_r10, ↓zl_r11, ↓zl_r12, ↓zl_chk, ↓zl_a1, ↓zl_a2, ↓zl_a3, ↓zl_a4, ↓zl_a5, ↓zl_a6, ↓zl_a7, ↓zl_a8, ↓zl_a9, ↓zl_a10, zLS_I, hL, zc_ended hC hh, Option.bind_some, h8, (hC.hd hh).2.1, zb_n0, zb_0]
  have e0 : (decide (hat (sh S h) < zN P) && !hst (sh S h)) = false → zbits (zwp P n S h) n = 0 := fun q => zbits_false fun j _ => by
    unfold zwp
    rw [q, Bool.false_and]
  by_cases ha : hat (sh S h) < zN P
  · rw [decide_eq_true ha, if_neg (by decide)]
    cases hs : hst (sh S h)
    · obtain ⟨k1, k2, k3, k4⟩ := hX.1.2.2 _ ha
      rw [if_pos rfl]
      have hk7 : zkd P (hat (sh S h)) ≤ 7 := by
        rcases hI h hh with q | q
        · have := hX.1.1.1
          omega
        · exact q.2.1
      have ew : ∀ j, zwp P n S h j = (if zK P S h ≤ 3 then decide (j = zto P n S h)
         else if zK P S h = 4 then !decide (j = h) && decide (hat (sh S j) < zN P)
         else if zK P S h = 5 then zany (fun k => decide (wpr (sw S k) = 8 * h + j) && wbg (sw S k)) (sm S)
         else !zisAt P (sh S j) (zK P S h)) := fun j => by
        unfold zwp
        rw [decide_eq_true ha, hs]
        rfl
      simp only [zc_bits hC, Option.bind_some, ↓zl_rI, ↓zl_r3, ↓zl_r4, ↓zl_r5, ↓zl_r6, ↓zl_r7, ↓zl_r8, ↓zl_r9, ↓zl_r10, ↓zl_r11, ↓zl_r12, ↓zl_chk, ↓zl_a1, ↓zl_a2, ↓zl_a3, ↓zl_a4, ↓zl_a5, ↓zl_a6, ↓zl_a7, ↓zl_a8, ↓zl_a9, ↓zl_a10, zLS_I, hL, h8, (hC.hd hh).1, zadr_s ha, zp_rI k1, k2]
      have e3 : zK P S h ≤ 3 → zto P n S h < n → zbits (zwp P n S h) n = zbit (zto P n S h) := fun q ht => by
        rw [← zbits_one' ht]
        exact zbits_congr fun j _ => by rw [ew, if_pos q]
      have cases7 : zkd P (hat (sh S h)) = 0 ∨ zkd P (hat (sh S h)) = 1 ∨ zkd P (hat (sh S h)) = 2 ∨ zkd P (hat (sh S h)) = 3 ∨ zkd P (hat (sh S h)) = 4 ∨ zkd P (hat (sh S h)) = 5 ∨ zkd P (hat (sh S h)) = 6 ∨ zkd P (hat (sh S h)) = 7 := by omega
      have k012 : zK P S h ≤ 2 → (gcast G 15 15 (some (A (hat (sh S h))))).bind (fun x83 => (gchk G 15 x83).bind fun b88 => (fX9_to E b88 (some l) (Int32.ofNat h) G).bind fun z88 => some ((1 <<< (z88.1 &&& 31)), z88.2)) = some (zbits (zwp P n S h) n, G) := fun hk => by
        obtain ⟨q1, -⟩ := (hX.2 _ ha).2.1 hk
        have kk : (15 : Nat) ≤ gcl G (A (hat (sh S h))) ∧ gcl G (A (hat (sh S h))) ≤ 15 := by omega
        obtain ⟨t1, t2, t3⟩ := hI.to hn hh ha hX.1.1.1 hs (by omega)
        have tt := zc_to (E := E) hC hX hh ha hk
        rw [t1] at tt
        rw [zp_cast kk, zp_chk q1, tt, Option.bind_some, e3 (by omega) t2]
        rfl
      rcases cases7 with e | e | e | e | e | e | e | e
      · rw [e, if_pos (show Int32.ofNat 0 = 0 from rfl)]
        exact k012 (by unfold zK; omega)
      · rw [e, if_neg (show ¬ Int32.ofNat 1 = 0 by decide), if_pos (show Int32.ofNat 1 = 1 from rfl)]
        exact k012 (by unfold zK; omega)
      · rw [e, if_neg (show ¬ Int32.ofNat 2 = 0 by decide), if_neg (show ¬ Int32.ofNat 2 = 1 by decide), if_pos (show Int32.ofNat 2 = 2 from rfl)]
        exact k012 (by unfold zK; omega)
      · rw [e, if_neg (show ¬ Int32.ofNat 3 = 0 by decide), if_neg (show ¬ Int32.ofNat 3 = 1 by decide), if_neg (show ¬ Int32.ofNat 3 = 2 by decide), if_pos (show Int32.ofNat 3 = 3 from rfl)]
        have eK : zK P S h = 3 := e
        obtain ⟨q1, -⟩ := (hX.2 _ ha).2.2.1 (Or.inl e)
        have kk : (16 : Nat) ≤ gcl G (A (hat (sh S h))) ∧ gcl G (A (hat (sh S h))) ≤ 16 := by omega
        obtain ⟨t1, t2, t3⟩ := hI.to hn hh ha hX.1.1.1 hs (by omega)
        have tt := zc_of (E := E) hC hX hh ha e
        rw [t1] at tt
        rw [zp_cast kk, zp_chk q1, tt, Option.bind_some, e3 (by omega) t2]
        rfl
      · rw [e, if_neg (show ¬ Int32.ofNat 4 = 0 by decide), if_neg (show ¬ Int32.ofNat 4 = 1 by decide), if_neg (show ¬ Int32.ofNat 4 = 2 by decide), if_neg (show ¬ Int32.ofNat 4 = 3 by decide), if_pos (show Int32.ofNat 4 = 4 from rfl)]
        have eK : zK P S h = 4 := e
        have := zbits_and (fun j => decide (hat (sh S j) < zN P)) hn hh
        have e2 : zbits (zwp P n S h) n = zbits (fun j => !decide (j = h) && decide (hat (sh S j) < zN P)) n := zbits_congr fun j _ => by rw [ew, if_neg (by omega), if_pos eK]
        rw [e2, ← this]
        rfl
      · rw [e, if_neg (show ¬ Int32.ofNat 5 = 0 by decide), if_neg (show ¬ Int32.ofNat 5 = 1 by decide), if_neg (show ¬ Int32.ofNat 5 = 2 by decide), if_neg (show ¬ Int32.ofNat 5 = 3 by decide), if_neg (show ¬ Int32.ofNat 5 = 4 by decide), if_pos (show Int32.ofNat 5 = 5 from rfl)]
        have eK : zK P S h = 5 := e
        rw [zc_begun hC h8, Option.bind_some, zbgn_bits (sm S) hw hn]
        have e2 : zbits (zwp P n S h) n = zbits (fun j => zany (fun k => decide (wpr (sw S k) = 8 * h + j) && wbg (sw S k)) (sm S)) n := zbits_congr fun j _ => by rw [ew, if_neg (by omega), if_neg (by omega), if_pos eK]
        rw [e2]
      all_goals
        rw [e]
        rw [if_neg (by decide), if_neg (by decide), if_neg (by decide), if_neg (by decide), if_neg (by decide), if_neg (by decide)]
        have eK : zK P S h = _ := e
        have b := zc_wait_b124 (E := E) hC hX hh ha e n gFU 0 (by omega) (Nat.zero_le _) (z_F _ (by omega))
        have e2 := zbits_congr (f := zwp P n S h) (g := fun j => !zisAt P (sh S j) (zK P S h)) (k := n) fun j _ => by rw [ew, if_neg (by omega), if_neg (by omega), if_neg (by omega)]
        rw [e2, eK]
        exact b
    · rw [if_neg (by decide), e0 (by rw [hs]; simp)]
  · rw [decide_eq_false ha, if_pos (by decide), e0 (by rw [decide_eq_false ha]; rfl)]
end Z27
