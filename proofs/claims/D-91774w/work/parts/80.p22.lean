/-! THE PLAIN LAW, 22: all states that are reached -/
set_option maxRecDepth 100000
def zxo (P : zPr) (o : Nat → Bool) (n r k h : Nat) : Nat → Nat → zX → Bool × zX
  | 0, _, X => (true, X)
  | d + 1, f, X => if zcan P n r (xs X k) h f = true then (if (ztry P o n r X k h f).1 = true then zxo P o n r k h d (f + 1) (ztry P o n r X k h f).2 else ztry P o n r X k h f) else zxo P o n r k h d (f + 1) X
def zxh (P : zPr) (o : Nat → Bool) (n r k h : Nat) (X : zX) : Bool × zX :=
  if zK P (xs X k) h = 4 then zxo P o n r k h n 0 X else if zcan P n r (xs X k) h 0 = true then ztry P o n r X k h h else (true, X)
def zxk (P : zPr) (o : Nat → Bool) (n r k : Nat) : Nat → Nat → zX → Bool × zX
  | 0, _, X => (true, X)
  | d + 1, h, X => if (zxh P o n r k h X).1 = true then zxk P o n r k d (h + 1) (zxh P o n r k h X).2 else zxh P o n r k h X
def zxs (P : zPr) (o : Nat → Bool) (n r : Nat) : Nat → Nat → zX → Bool × zX
  | 0, _, X => (true, X)
  | F + 1, k, X => if xn X ≤ k then (true, X) else if (zxk P o n r k n 0 X).1 = true then zxs P o n r F (k + 1) (zxk P o n r k n 0 X).2 else zxk P o n r k n 0 X
def zX0 (P : zPr) (o : Nat → Bool) (n : Nat) : zX := (1, fun _ => zbeg P o n, fun _ _ => 0)
def zexp (P : zPr) (o : Nat → Bool) (n r : Nat) : Bool × zX := zxs P o n r 201 0 (zX0 P o n)
/-- a hand has a move; none has one -/
def zhas (P : zPr) (n r : Nat) (S : zS) (h : Nat) : Bool := if zK P S h = 4 then zany (fun f => zcan P n r S h f) n else zcan P n r S h 0
def zfin (P : zPr) (n r : Nat) (S : zS) : Bool := zall (fun h => !zhas P n r S h) n
/-- how they end, of the first k -/
def zen (P : zPr) (n r : Nat) (X : zX) : Nat → zL
  | 0 => (0, fun _ => (0, fun _ => 0, 0, 0))
  | k + 1 => if zfin P n r (xs X k) = true then zeins n (zen P n r X k) (zend P n (xs X k)) else zen P n r X k
def zcf (P : zPr) (n r : Nat) (X : zX) : Nat → Nat
  | 0 => 0
  | k + 1 => if zfin P n r (xs X k) = true then zcf P n r X k + 1 else zcf P n r X k
section Z22
variable {P : zPr} {o : Nat → Bool} {n r : Nat} {X : zX}
/-- one more state list goes on from another -/
def zgt' (X Y : zX) : Prop := xn X ≤ xn Y ∧ ∀ j, j < xn X → xs Y j = xs X j
theorem zgt'.refl : zgt' X X := ⟨Nat.le_refl _, fun _ _ => rfl⟩
theorem zgt'.trans {Y Z : zX} (h : zgt' X Y) (k : zgt' Y Z) : zgt' X Z := ⟨Nat.le_trans h.1 k.1, fun j hj => (k.2 j (Nat.lt_of_lt_of_le hj h.1)).trans (h.2 j hj)⟩
theorem ztry_gt {k h f : Nat} : zgt' X (ztry P o n r X k h f).2 := by
  unfold ztry
  by_cases c : zany (fun i => zlike n (xs X i) (zmove P o n r (xs X k) h f)) (xn X) = true
  · rw [if_pos c]
    exact ⟨Nat.le_refl _, fun _ _ => rfl⟩
  · rw [if_neg c]
    by_cases c2 : xn X = 200
    · rw [if_pos c2]
      exact ⟨Nat.le_refl _, fun _ _ => rfl⟩
    · rw [if_neg c2]
      exact ⟨Nat.le_succ _, fun j hj => if_neg (Nat.ne_of_lt hj)⟩
theorem zxo_succ (k h d f : Nat) (X : zX) : zxo P o n r k h (d + 1) f X = if zcan P n r (xs X k) h f = true then (if (ztry P o n r X k h f).1 = true then zxo P o n r k h d (f + 1) (ztry P o n r X k h f).2 else ztry P o n r X k h f) else zxo P o n r k h d (f + 1) X := rfl
theorem zxk_succ (k d h : Nat) (X : zX) : zxk P o n r k (d + 1) h X = if (zxh P o n r k h X).1 = true then zxk P o n r k d (h + 1) (zxh P o n r k h X).2 else zxh P o n r k h X := rfl
theorem zxs_succ (F k : Nat) (X : zX) : zxs P o n r (F + 1) k X = if xn X ≤ k then (true, X) else if (zxk P o n r k n 0 X).1 = true then zxs P o n r F (k + 1) (zxk P o n r k n 0 X).2 else zxk P o n r k n 0 X := rfl
theorem zxo_gt {k h : Nat} : ∀ d f (X : zX), zgt' X (zxo P o n r k h d f X).2
  | 0, _, _ => zgt'.refl
  | d + 1, f, X => by
    rw [zxo_succ]
    split
    · split
      · exact ztry_gt.trans (zxo_gt d (f + 1) _)
      · exact ztry_gt
    · exact zxo_gt d (f + 1) X
theorem zxh_gt {k h : Nat} : zgt' X (zxh P o n r k h X).2 := by
  unfold zxh
  split
  · exact zxo_gt n 0 X
  · split
    · exact ztry_gt
    · exact zgt'.refl
theorem zxk_gt {k : Nat} : ∀ d h (X : zX), zgt' X (zxk P o n r k d h X).2
  | 0, _, _ => zgt'.refl
  | d + 1, h, X => by
    rw [zxk_succ]
    split
    · exact zxh_gt.trans (zxk_gt d (h + 1) _)
    · exact zxh_gt
theorem zen_succ (k : Nat) : zen P n r X (k + 1) = if zfin P n r (xs X k) = true then zeins n (zen P n r X k) (zend P n (xs X k)) else zen P n r X k := rfl
theorem zcf_succ (k : Nat) : zcf P n r X (k + 1) = if zfin P n r (xs X k) = true then zcf P n r X k + 1 else zcf P n r X k := rfl
theorem zen_congr {Y : zX} : ∀ {k : Nat}, (∀ j, j < k → xs Y j = xs X j) → zen P n r Y k = zen P n r X k
  | 0, _ => rfl
  | k + 1, h => by rw [zen_succ, zen_succ, h k (by omega), zen_congr (fun j hj => h j (by omega))]
theorem zcf_congr {Y : zX} : ∀ {k : Nat}, (∀ j, j < k → xs Y j = xs X j) → zcf P n r Y k = zcf P n r X k
  | 0, _ => rfl
  | k + 1, h => by rw [zcf_succ, zcf_succ, h k (by omega), zcf_congr (fun j hj => h j (by omega))]
theorem zen_le : ∀ {k : Nat}, (zen P n r X k).1 ≤ k
  | 0 => Nat.le_refl _
  | k + 1 => by
    have := zen_le (k := k)
    rw [zen_succ]
    split
    · rcases zeins_1 (n := n) (L := zen P n r X k) (e := zend P n (xs X k)) with h | h <;> omega
    · omega
theorem zcf_le : ∀ {k : Nat}, zcf P n r X k ≤ k
  | 0 => Nat.le_refl _
  | k + 1 => by
    have := zcf_le (k := k)
    rw [zcf_succ]
    split <;> omega
theorem zcf_mono {j : Nat} : ∀ {k : Nat}, j ≤ k → zcf P n r X j ≤ zcf P n r X k
  | 0, h => by
    obtain rfl : j = 0 := by omega
    exact Nat.le_refl _
  | k + 1, h => by
    by_cases c : j = k + 1
    · rw [c]
      exact Nat.le_refl _
    · have := zcf_mono (k := k) (j := j) (by omega)
      rw [zcf_succ]
      split <;> omega
/-- few of the states are ends -/
def zfew (P : zPr) (n r : Nat) (X : zX) (k : Nat) : Prop := xn X ≤ 200 ∧ ((zfin P n r (xs X 0) = true ∧ xn X = 1) ∨ zcf P n r X (xn X) ≤ 7 * (k - zcf P n r X k))
theorem zfew.bd {k : Nat} (h : zfew P n r X k) (hk : k ≤ xn X) : zcf P n r X k ≤ 175 := by
  obtain ⟨h1, h2⟩ := h
  have a := zcf_mono (P := P) (n := n) (r := r) (X := X) hk
  have b := zcf_le (P := P) (n := n) (r := r) (X := X) (k := k)
  rcases h2 with h2 | h2
  · omega
  · omega
theorem zfew.succ {k : Nat} (h : zfew P n r X k) (hf : zfin P n r (xs X k) = true) : zfew P n r X (k + 1) := by
  obtain ⟨h1, h2⟩ := h
  refine ⟨h1, h2.imp id fun h2 => ?_⟩
  rw [zcf_succ k, if_pos hf]
  have b := zcf_le (P := P) (n := n) (r := r) (X := X) (k := k)
  omega
theorem zfew.zero : zfew P n r (zX0 P o n) 0 := by
  refine ⟨Nat.le_of_ble_eq_true rfl, ?_⟩
  by_cases c : zfin P n r (xs (zX0 P o n) 0) = true
  · exact Or.inl ⟨c, rfl⟩
  · refine Or.inr ?_
    show zcf P n r (zX0 P o n) (0 + 1) ≤ _
    rw [zcf_succ, if_neg c]
    exact Nat.zero_le _
/-- the moves of one state lead to no more than seven ends -/
theorem zxk_few (hP : zOk P) (hn : n ≤ 8) {k : Nat} (hk : k < xn X) (hg : zgood P n (xs X k)) (hfin : zfin P n r (xs X k) = false) : zcf P n r (zxk P o n r k n 0 X).2 (xn (zxk P o n r k n 0 X).2) ≤ zcf P n r X (xn X) + 7 := by
  sorry
theorem zfew.step (hP : zOk P) (hn : n ≤ 8) {k : Nat} (h : zfew P n r X k) (hk : k < xn X) (hg : zgood P n (xs X k)) (hfin : zfin P n r (xs X k) = false) (h2 : xn (zxk P o n r k n 0 X).2 ≤ 200) : zfew P n r (zxk P o n r k n 0 X).2 (k + 1) := by
  have hgt := zxk_gt (P := P) (o := o) (n := n) (r := r) (k := k) n 0 X
  have few := zxk_few (o := o) hP hn hk hg hfin
  refine ⟨h2, Or.inr ?_⟩
  have e1 : zcf P n r (zxk P o n r k n 0 X).2 (k + 1) = zcf P n r X k := by
    rw [zcf_succ, hgt.2 k hk, hfin, if_neg (by decide), zcf_congr (fun j hj => hgt.2 j (by omega))]
  rw [e1]
  have b := zcf_le (P := P) (n := n) (r := r) (X := X) (k := k)
  rcases h.2 with q | q
  · have : k = 0 := by omega
    rw [this, q.1] at hfin
    cases hfin
  · omega
/-! bits -/
def zbn (f : Nat → Bool) : Nat → Nat
  | 0 => 0
  | n + 1 => if f n = true then zbn f n + 2 ^ n else zbn f n
theorem zbn_succ (f : Nat → Bool) (n : Nat) : zbn f (n + 1) = if f n = true then zbn f n + 2 ^ n else zbn f n := rfl
theorem zbn_lt (f : Nat → Bool) : ∀ n, zbn f n < 2 ^ n
  | 0 => Nat.lt_succ_self 0
  | n + 1 => by
    have := zbn_lt f n
    rw [zbn_succ, Nat.pow_succ]
    split <;> omega
theorem zor_bit : ∀ n, n < 8 → ∀ m, m < 2 ^ n → Int32.ofNat m ||| zbit n = Int32.ofNat (m + 2 ^ n) := by decide +kernel
theorem zbits_n (f : Nat → Bool) : ∀ n, n ≤ 8 → zbits f n = Int32.ofNat (zbn f n)
  | 0, _ => rfl
  | n + 1, h => by
    rw [zbits_succ, zbn_succ, zbits_n f n (by omega)]
    split
    · exact zor_bit n (by omega) _ (zbn_lt f n)
    · rfl
theorem zbn_bit (f : Nat → Bool) (j : Nat) : ∀ n, j < n → (zbn f n / 2 ^ j) % 2 = if f j = true then 1 else 0
  | 0, h => absurd h (Nat.not_lt_zero j)
  | n + 1, h => by
    rw [zbn_succ]
    have hl := zbn_lt f n
    by_cases c : j = n
    · subst c
      split
      · rw [Nat.add_div_right _ (Nat.two_pow_pos j), Nat.div_eq_of_lt hl]
      · rw [Nat.div_eq_of_lt hl]
    · have ih := zbn_bit f j n (by omega)
      obtain ⟨d, rfl⟩ : ∃ d, n = j + 1 + d := ⟨n - j - 1, by omega⟩
      have e : 2 ^ (j + 1 + d) = 2 ^ j * (2 * 2 ^ d) := by rw [Nat.pow_add, Nat.pow_succ, Nat.mul_assoc]
      split
      · rw [e, Nat.add_mul_div_left _ _ (Nat.two_pow_pos j), Nat.add_mod, Nat.mul_mod_right, Nat.add_zero, Nat.mod_mod]
        exact ih
      · exact ih
theorem zshr_bit : ∀ j, j < 8 → ∀ m, m < 256 → ((Int32.ofNat m >>> (Int32.ofNat j &&& 31)) &&& 1 = 0) = ((m / 2 ^ j) % 2 = 0) := by
  have h : ∀ j, j < 8 → ∀ m, m < 256 → decide ((Int32.ofNat m >>> (Int32.ofNat j &&& 31)) &&& 1 = 0) = decide ((m / 2 ^ j) % 2 = 0) := by decide +kernel
  intro j hj m hm
  exact propext (decide_eq_decide.1 (h j hj m hm))
theorem zbits_test (f : Nat → Bool) {n j : Nat} (hn : n ≤ 8) (hj : j < n) : ((zbits f n >>> (Int32.ofNat j &&& 31)) &&& 1 = 0) = (f j = false) := by
  have hl := zbn_lt f n
  have hl2 : zbn f n < 256 := Nat.lt_of_lt_of_le hl (Nat.pow_le_pow_right (n := 2) (by omega) hn : 2 ^ n ≤ 2 ^ 8)
  rw [zbits_n f n hn, zshr_bit j (by omega) _ hl2, zbn_bit f j n hj]
  cases f j <;> simp
/-- which hands' moves there are of a hand -/
def zmf (P : zPr) (n r : Nat) (S : zS) (h f : Nat) : Bool := if zK P S h = 4 then zcan P n r S h f else decide (f = h) && zcan P n r S h 0
theorem zbits_one {b : Bool} {h : Nat} : ∀ k, zbits (fun f => decide (f = h) && b) k = if h < k ∧ b = true then zbit h else 0
  | 0 => by rw [if_neg (by omega)]; rfl
  | k + 1 => by
    rw [zbits_succ, zbits_one k]
    cases b
    · simp
    · by_cases c : k = h
      · subst c
        simp [zbit]
      · by_cases c2 : h < k
        · rw [if_neg (by simp [c]), if_pos ⟨c2, rfl⟩, if_pos ⟨by omega, rfl⟩]
        · rw [if_neg (by simp [c]), if_neg (fun q => c2 q.1), if_neg (fun q => c2 (by omega))]
theorem zmvs_bits {S : zS} {h : Nat} (hh : h < n) : zmvs P n r S h = zbits (zmf P n r S h) n := by
  unfold zmvs
  by_cases c : zK P S h = 4
  · rw [if_pos c]
    exact zbits_congr fun j _ => (if_pos c).symm
  · rw [if_neg c]
    have e : zbits (zmf P n r S h) n = zbits (fun f => decide (f = h) && zcan P n r S h 0) n := zbits_congr fun j _ => if_neg c
    rw [e, zbits_one]
    by_cases c2 : zcan P n r S h 0 = true
    · rw [if_pos c2, if_pos ⟨hh, c2⟩]
    · rw [if_neg c2, if_neg (fun q => c2 q.2)]
end Z22
