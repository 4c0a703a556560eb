/-! THE PLAIN LAW, 1: the picture's ops, step by step; ints as numbers -/
set_option maxRecDepth 100000
/-! ints -/
theorem zi_le {a b : Nat} (h : a ≤ b) (hb : b < 2147483648) : Int32.ofNat a ≤ Int32.ofNat b := (Int32.ofNat_le_iff_le (by omega) (by omega)).2 h
theorem zi_nle {a b : Nat} (h : b < a) (hb : a < 2147483648) : ¬ Int32.ofNat a ≤ Int32.ofNat b := fun q => absurd ((Int32.ofNat_le_iff_le (by omega) (by omega)).1 q) (by omega)
theorem zi_lt {a b : Nat} (h : a < b) (hb : b < 2147483648) : Int32.ofNat a < Int32.ofNat b := (Int32.ofNat_lt_iff_lt (by omega) (by omega)).2 h
theorem zi_nlt {a b : Nat} (h : b ≤ a) (hb : a < 2147483648) : ¬ Int32.ofNat a < Int32.ofNat b := fun q => absurd ((Int32.ofNat_lt_iff_lt (by omega) (by omega)).1 q) (by omega)
theorem zi_inj {a b : Nat} (ha : a < 2147483648) (hb : b < 2147483648) (h : Int32.ofNat a = Int32.ofNat b) : a = b := by
  have h2 := congrArg Int32.toNatClampNeg h
  rwa [Int32.toNatClampNeg_ofNat_of_lt (by omega), Int32.toNatClampNeg_ofNat_of_lt (by omega)] at h2
theorem zi_eq {a b : Nat} (ha : a < 2147483648) (hb : b < 2147483648) : (Int32.ofNat a = Int32.ofNat b) = (a = b) := propext ⟨zi_inj ha hb, fun h => h ▸ rfl⟩
theorem zi_leq {a b : Nat} (ha : a < 2147483648) (hb : b < 2147483648) : (Int32.ofNat a ≤ Int32.ofNat b) = (a ≤ b) := propext (Int32.ofNat_le_iff_le (by omega) (by omega))
theorem zi_ltq {a b : Nat} (ha : a < 2147483648) (hb : b < 2147483648) : (Int32.ofNat a < Int32.ofNat b) = (a < b) := propext (Int32.ofNat_lt_iff_lt (by omega) (by omega))
theorem zi_cl {i : Nat} (h : i < 2147483648) : (Int32.ofNat i).toNatClampNeg = i := Int32.toNatClampNeg_ofNat_of_lt (by omega)
theorem zi_neg {i : Nat} (h : i < 2147483648) : ¬ Int32.ofNat i < 0 := zi_nlt (b := 0) (Nat.zero_le i) h
theorem zi_inc (i : Nat) : Int32.ofNat i + 1 = Int32.ofNat (i + 1) := (Int32.ofNat_add i 1).symm
theorem zi_add (i j : Nat) : Int32.ofNat i + Int32.ofNat j = Int32.ofNat (i + j) := (Int32.ofNat_add i j).symm
theorem zi_dec (i : Nat) : Int32.ofNat (i + 1) - 1 = Int32.ofNat i := (Int32.ofNat_sub (i + 1) 1 (by omega)).symm
theorem zi_dec2 (i : Nat) : Int32.ofNat (i + 1) + -1 = Int32.ofNat i := by rw [Int32.add_neg_eq_sub, zi_dec]
theorem zi_4 (h k : Nat) : 4 * Int32.ofNat h + Int32.ofNat k = Int32.ofNat (4 * h + k) := by rw [Int32.ofNat_add, Int32.ofNat_mul]; rfl
theorem zi_8 (h k : Nat) : 8 * Int32.ofNat h + Int32.ofNat k = Int32.ofNat (8 * h + k) := by rw [Int32.ofNat_add, Int32.ofNat_mul]; rfl
/-- a truth as the machine's int -/
def zb (b : Bool) : Int32 := if b = true then 1 else 0
theorem zb_t : zb true = 1 := rfl
theorem zb_f : zb false = 0 := rfl
theorem zb_0 (b : Bool) : (zb b = 0) = (b = false) := by cases b <;> decide
theorem zb_n0 (b : Bool) : (¬ zb b = 0) = (b = true) := by cases b <;> decide
theorem zi_00 : ((0 : Int32) = 0 ∨ (0 : Int32) = 1) = True := by decide
theorem zi_11 : ((1 : Int32) = 0 ∨ (1 : Int32) = 1) = True := by decide
theorem zb_ok (b : Bool) : (zb b = 0 ∨ zb b = 1) = True := by cases b <;> decide
theorem z_F (n : Nat) (h : n < 100000000) : n < gFU := by unfold gFU; omega
theorem z_suc {f d : Nat} (h : d < f) : ∃ n, f = n + 1 := ⟨f - 1, by omega⟩
/-! what is behind a write -/
section ZQ
variable {G : g_G} {a b k j n c : Nat} {v : Int32} {w : Int64} {r : Option Nat}
theorem zq_clI : gcl (gsI G a k v) = gcl G := rfl
theorem zq_lnI : gln (gsI G a k v) = gln G := rfl
theorem zq_RI : gR (gsI G a k v) = gR G := rfl
theorem zq_LI : gL (gsI G a k v) = gL G := rfl
theorem zq_szI : gsz (gsI G a k v) = gsz G := rfl
theorem zq_slI : gsl (gsI G a k v) = gsl G := rfl
theorem zq_II : gI (gsI G a k v) b j = if b = a ∧ j = k then v else gI G b j := rfl
theorem zq_clL : gcl (gsL G a k w) = gcl G := rfl
theorem zq_lnL : gln (gsL G a k w) = gln G := rfl
theorem zq_RL : gR (gsL G a k w) = gR G := rfl
theorem zq_IL : gI (gsL G a k w) = gI G := rfl
theorem zq_szL : gsz (gsL G a k w) = gsz G := rfl
theorem zq_slL : gsl (gsL G a k w) = gsl G := rfl
theorem zq_LL : gL (gsL G a k w) b j = if b = a ∧ j = k then w else gL G b j := rfl
theorem zq_clR : gcl (gsR G a k r) = gcl G := rfl
theorem zq_lnR : gln (gsR G a k r) = gln G := rfl
theorem zq_IR : gI (gsR G a k r) = gI G := rfl
theorem zq_LR : gL (gsR G a k r) = gL G := rfl
theorem zq_szR : gsz (gsR G a k r) = gsz G := rfl
theorem zq_slR : gsl (gsR G a k r) = gsl G := rfl
theorem zq_RR : gR (gsR G a k r) b j = if b = a ∧ j = k then r else gR G b j := rfl
theorem zq_szN : gsz (gnew G c n) = gsz G + 1 := rfl
theorem zq_slN : gsl (gnew G c n) = gsl G + n := rfl
theorem zq_clN : gcl (gnew G c n) b = if b = gsz G then c else gcl G b := rfl
theorem zq_lnN : gln (gnew G c n) b = if b = gsz G then n else gln G b := rfl
theorem zq_IN : gI (gnew G c n) b = if b = gsz G then fun _ => 0 else gI G b := rfl
theorem zq_LN : gL (gnew G c n) b = if b = gsz G then fun _ => 0 else gL G b := rfl
theorem zq_RN : gR (gnew G c n) b = if b = gsz G then fun _ => none else gR G b := rfl
end ZQ
/-! the ops, one at a time -/
section ZP
variable {α : Type} {E : g_E} {G : g_G} {lo hi a b k i n c : Nat} {v : Int32} {w : Int64} {r : Option Nat}
theorem zp_rI {K : Int32 → Option α} (h : lo ≤ gcl G a ∧ gcl G a ≤ hi) : (grI G lo hi (some a) k).bind K = K (gI G a k) := by
  unfold grI
  rw [Option.bind_some, if_pos h, Option.bind_some]
theorem zp_rR {K : Option Nat → Option α} (h : lo ≤ gcl G a ∧ gcl G a ≤ hi) : (grR G lo hi (some a) k).bind K = K (gR G a k) := by
  unfold grR
  rw [Option.bind_some, if_pos h, Option.bind_some]
theorem zp_pI {K : g_G → Option α} (h : lo ≤ gcl G a ∧ gcl G a ≤ hi) (hB : gB E ≤ a) : (gpI E G lo hi (some a) k v).bind K = K (gsI G a k v) := by
  unfold gpI
  rw [Option.bind_some, if_pos ⟨hB, h⟩, Option.bind_some]
theorem zp_pZ {K : g_G → Option α} (h : lo ≤ gcl G a ∧ gcl G a ≤ hi) (hB : gB E ≤ a) (hv : v = 0 ∨ v = 1) : (gpZ E G lo hi (some a) k v).bind K = K (gsI G a k v) := by
  unfold gpZ
  rw [Option.bind_some, if_pos ⟨hv, hB, h⟩, Option.bind_some]
theorem zp_pR {K : g_G → Option α} (h : lo ≤ gcl G a ∧ gcl G a ≤ hi) (hB : gB E ≤ a) : (gpR E G lo hi (some a) k r).bind K = K (gsR G a k r) := by
  unfold gpR
  rw [Option.bind_some, if_pos ⟨hB, h⟩, Option.bind_some]
theorem zp_in (h : i < n) (hi : i < 2147483648) : ¬ (Int32.ofNat i < 0 ∨ n ≤ (Int32.ofNat i).toNatClampNeg) := by
  rw [zi_cl hi]
  exact fun q => q.elim (zi_neg hi) (fun q => by omega)
theorem zp_aI {K : Int32 → Option α} (hc : gcl G a = c) (h : i < gln G a) (hi : i < 2147483648) : (gaI G c (some a) (Int32.ofNat i)).bind K = K (gI G a i) := by
  unfold gaI
  rw [Option.bind_some, if_pos ⟨hc, zp_in h hi⟩, Option.bind_some, zi_cl hi]
theorem zp_aL {K : Int64 → Option α} (hc : gcl G a = 110) (h : i < gln G a) (hi : i < 2147483648) : (gaL G (some a) (Int32.ofNat i)).bind K = K (gL G a i) := by
  unfold gaL
  rw [Option.bind_some, if_pos ⟨hc, zp_in h hi⟩, Option.bind_some, zi_cl hi]
theorem zp_aR {K : Option Nat → Option α} (hc : gcl G a = c) (h : i < gln G a) (hi : i < 2147483648) : (gaR G c (some a) (Int32.ofNat i)).bind K = K (gR G a i) := by
  unfold gaR
  rw [Option.bind_some, if_pos ⟨hc, zp_in h hi⟩, Option.bind_some, zi_cl hi]
theorem zp_saI {K : g_G → Option α} (hB : gB E ≤ a) (hc : gcl G a = 100) (h : i < gln G a) (hi : i < 2147483648) : (gsaI E G (some a) (Int32.ofNat i) v).bind K = K (gsI G a i v) := by
  unfold gsaI
  rw [Option.bind_some, if_pos ⟨hB, hc, zp_in h hi⟩, Option.bind_some, zi_cl hi]
theorem zp_saZ {K : g_G → Option α} (hB : gB E ≤ a) (hc : gcl G a = 102) (h : i < gln G a) (hi : i < 2147483648) : (gsaZ E G (some a) (Int32.ofNat i) v).bind K = K (gsI G a i (v &&& 1)) := by
  unfold gsaZ
  rw [Option.bind_some, if_pos ⟨hB, hc, zp_in h hi⟩, Option.bind_some, zi_cl hi]
theorem zp_saB {K : g_G → Option α} (hB : gB E ≤ a) (hc : gcl G a = 101) (h : i < gln G a) (hi : i < 2147483648) : (gsaB E G (some a) (Int32.ofNat i) v).bind K = K (gsI G a i v.toInt8.toInt32) := by
  unfold gsaB
  rw [Option.bind_some, if_pos ⟨hB, hc, zp_in h hi⟩, Option.bind_some, zi_cl hi]
theorem zp_saL {K : g_G → Option α} (hB : gB E ≤ a) (hc : gcl G a = 110) (h : i < gln G a) (hi : i < 2147483648) : (gsaL E G (some a) (Int32.ofNat i) w).bind K = K (gsL G a i w) := by
  unfold gsaL
  rw [Option.bind_some, if_pos ⟨hB, hc, zp_in h hi⟩, Option.bind_some, zi_cl hi]
theorem zp_saR {K : g_G → Option α} (hB : gB E ≤ a) (hc : gcl G a = c) (h : i < gln G a) (hi : i < 2147483648) (hr : r.all (fun b => gasg c (gcl G b)) = true) : (gsaR E G c (some a) (Int32.ofNat i) r).bind K = K (gsR G a i r) := by
  unfold gsaR
  rw [Option.bind_some, if_pos ⟨hB, hc, zp_in h hi, hr⟩, Option.bind_some, zi_cl hi]
theorem zp_chk {K : Nat → Option α} (h : gcl G a = k) : (gchk G k (some a)).bind K = K a := by
  unfold gchk
  rw [Option.bind_some, if_pos h, Option.bind_some]
theorem zp_len {K : Int32 → Option α} (h : 100 ≤ gcl G a) : (galen G (some a)).bind K = K (Int32.ofNat (gln G a)) := by
  unfold galen
  rw [Option.bind_some, if_pos h, Option.bind_some]
theorem zp_cast {K : Option Nat → Option α} (h : lo ≤ gcl G a ∧ gcl G a ≤ hi) : (gcast G lo hi (some a)).bind K = K (some a) := by
  show (if lo ≤ gcl G a ∧ gcl G a ≤ hi then some (some a) else none).bind K = _
  rw [if_pos h, Option.bind_some]
theorem zp_cast0 {K : Option Nat → Option α} : (gcast G lo hi none).bind K = K none := rfl
theorem zp_newO {K : Nat × g_G → Option α} (h1 : gsz G + 1 ≤ gMc E) (h2 : gsl G + n ≤ gMs E) : (gnewO E G c n).bind K = K (gsz G, gnew G c n) := by
  unfold gnewO
  rw [if_pos ⟨h1, h2⟩, Option.bind_some]
theorem zp_newA {K : Nat × g_G → Option α} (hn : n ≤ 67108864) (h1 : gsz G + 1 ≤ gMc E) (h2 : gsl G + n ≤ gMs E) : (gnewA E G c (Int32.ofNat n)).bind K = K (gsz G, gnew G c n) := by
  unfold gnewA
  have e : (Int32.ofNat n).toNatClampNeg = n := zi_cl (by omega)
  rw [if_pos ⟨zi_neg (by omega), by rw [e]; exact hn, h1, by rw [e]; exact h2⟩, Option.bind_some, e]
end ZP
