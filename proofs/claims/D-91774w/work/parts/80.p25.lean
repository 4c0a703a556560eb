/-! THE PLAIN LAW, 25: plays of the class -/
set_option maxRecDepth 100000
/-! the least bit -/
def zshr (v k : Int32) : Int32 := ((Int32.toUInt32 v) >>> ((Int32.toUInt32 k) &&& Int32.toUInt32 31)).toInt32
def zn74 (v k : Int32) : Int32 := k + zshr v 1
def zn62 (v k : Int32) : Int32 := if v ≤ 4 then zn74 v k else zn74 (zshr v 2) (k + 2)
def zn49 (v k : Int32) : Int32 := if v ≤ 16 then zn62 v k else zn62 (zshr v 4) (k + 4)
def zn34 (v k : Int32) : Int32 := if v ≤ 256 then zn49 v k else zn49 (zshr v 8) (k + 8)
def zntz (v : Int32) : Int32 := if 0 < ((v ^^^ (-1)) &&& (v - 1)) then (if ((v ^^^ (-1)) &&& (v - 1)) ≤ 65536 then zn34 ((v ^^^ (-1)) &&& (v - 1)) 1 else zn34 (zshr ((v ^^^ (-1)) &&& (v - 1)) 16) (1 + 16)) else ((v ^^^ (-1)) &&& (v - 1)) &&& 32
def zlow (f : Nat → Bool) : Nat → Nat → Nat
  | 0, i => i
  | d + 1, i => if f i = true then i else zlow f d (i + 1)
def zlo (m : Nat) : Nat → Nat → Nat
  | 0, i => i
  | d + 1, i => if (m / 2 ^ i) % 2 = 1 then i else zlo m d (i + 1)
section Z25
variable {P : zPr} {A : Nat → Nat} {E : g_E} {G : g_G} {l n : Nat} {S : zS} {T : Nat → Int32} {R : Nat → Prop} {x tx r : Nat} {o : Nat → Bool} {K : zKt}
theorem zc_n62 (v k : Int32) : fJ16_numberOfTrailingZeros_b62 E v k G = some (zn62 v k, G) := by
  unfold fJ16_numberOfTrailingZeros_b62 zn62
  split <;> rfl
theorem zc_n49 (v k : Int32) : fJ16_numberOfTrailingZeros_b49 E v k G = some (zn49 v k, G) := by
  unfold fJ16_numberOfTrailingZeros_b49 zn49
  split
  · exact zc_n62 _ _
  · exact zc_n62 _ _
theorem zc_n34 (v k : Int32) : fJ16_numberOfTrailingZeros_b34 E v k G = some (zn34 v k, G) := by
  unfold fJ16_numberOfTrailingZeros_b34 zn34
  split
  · exact zc_n49 _ _
  · exact zc_n49 _ _
theorem zc_ntz0 (v : Int32) : fJ16_numberOfTrailingZeros E v G = some (zntz v, G) := by
  unfold fJ16_numberOfTrailingZeros zntz
  split
  · split
    · exact zc_n34 _ _
    · exact zc_n34 _ _
  · rfl
theorem zntz_lo : ∀ m, m < 256 → 0 < m → zntz (Int32.ofNat m) = Int32.ofNat (zlo m 8 0) := by decide +kernel
theorem zlow_succ (f : Nat → Bool) (d i : Nat) : zlow f (d + 1) i = if f i = true then i else zlow f d (i + 1) := rfl
theorem zlo_succ (m d i : Nat) : zlo m (d + 1) i = if (m / 2 ^ i) % 2 = 1 then i else zlo m d (i + 1) := rfl
theorem zlow_ok {f : Nat → Bool} : ∀ {d i j : Nat}, i ≤ j → j < i + d → f j = true → zlow f d i < i + d ∧ f (zlow f d i) = true
  | 0, i, j, h1, h2, _ => absurd h2 (by omega)
  | d + 1, i, j, h1, h2, h3 => by
    rw [zlow_succ]
    by_cases c : f i = true
    · rw [if_pos c]
      exact ⟨by omega, c⟩
    · rw [if_neg c]
      have : i ≠ j := fun q => c (q ▸ h3)
      have := zlow_ok (f := f) (d := d) (i := i + 1) (j := j) (by omega) (by omega) h3
      exact ⟨by omega, this.2⟩
theorem zlo_low {f : Nat → Bool} {m : Nat} (hn : n ≤ 8) (hb : ∀ j, j < n → (m / 2 ^ j) % 2 = if f j = true then 1 else 0) : ∀ d D i, i + d = n → i + D = 8 → (∃ j, i ≤ j ∧ j < n ∧ f j = true) → zlo m D i = zlow f d i
  | 0, D, i, h1, _, ⟨j, h2, h3, _⟩ => absurd h3 (by omega)
  | d + 1, D, i, h1, h4, ⟨j, h2, h3, h5⟩ => by
    obtain ⟨D, rfl⟩ : ∃ D', D = D' + 1 := ⟨D - 1, by omega⟩
    rw [zlo_succ, zlow_succ, hb i (by omega)]
    by_cases c : f i = true
    · rw [if_pos c, if_pos c, if_pos rfl]
    · rw [if_neg c, if_neg c, if_neg (by decide)]
      have : i ≠ j := fun q => c (q ▸ h5)
      exact zlo_low hn hb d D (i + 1) (by omega) (by omega) ⟨j, by omega, h3, h5⟩
theorem zc_ntz {f : Nat → Bool} (hn : n ≤ 8) {j : Nat} (hj : j < n) (hf : f j = true) : fJ16_numberOfTrailingZeros E (zbits f n) G = some (Int32.ofNat (zlow f n 0), G) := by
  have hl := zbn_lt f n
  have hl2 : zbn f n < 256 := Nat.lt_of_lt_of_le hl (Nat.pow_le_pow_right (n := 2) (by omega) hn : 2 ^ n ≤ 2 ^ 8)
  have hb := zbn_bit f
  have h0 : 0 < zbn f n := by
    have := hb j n hj
    rw [hf, if_pos rfl] at this
    rcases Nat.eq_zero_or_pos (zbn f n) with e | e
    · rw [e, Nat.zero_div] at this
      exact absurd this (by decide)
    · exact e
  rw [zbits_n f n hn, zc_ntz0, zntz_lo _ hl2 h0, zlo_low hn (fun j hj => hb j n hj) n 8 0 (by omega) rfl ⟨j, Nat.zero_le _, hj, hf⟩]
theorem zbits_0 {f : Nat → Bool} (hn : n ≤ 8) : (zbits f n = 0) = (zany f n = false) := by
  refine propext ⟨fun q => ?_, fun q => ?_⟩
  · rw [← Bool.not_eq_true, zany_iff]
    rintro ⟨j, hj, hf⟩
    have hb := zbn_bit f j n hj
    have hl := zbn_lt f n
    have hl2 : zbn f n < 256 := Nat.lt_of_lt_of_le hl (Nat.pow_le_pow_right (n := 2) (by omega) hn : 2 ^ n ≤ 2 ^ 8)
    rw [zbits_n f n hn] at q
    have e : zbn f n = 0 := zi_inj (b := 0) (by omega) (by omega) q
    rw [e, hf, if_pos rfl, Nat.zero_div] at hb
    exact absurd hb (by decide)
  · refine zbits_false fun j hj => ?_
    cases c : f j
    · rfl
    · rw [zany_t hj c] at q
      cases q
end Z25
/-! which move a hand makes, if it has one -/
def zpick (P : zPr) (n r : Nat) (S : zS) (h : Nat) (nc : Option Nat) : Option (Nat × Bool) :=
  if zK P S h = 4 then (match nc with
    | some c => if zcan P n r S h c = true then some (c, true) else none
    | none => if zany (fun f => zcan P n r S h f) n = true then some (zlow (fun f => zcan P n r S h f) n 0, true) else none)
  else if zcan P n r S h 0 = true then (if zK P S h ≤ 2 ∧ zmay P n r S h = false ∧ zK P S (zto P n S h) = 4 then (if nc = none ∨ nc = some h then some (h, true) else none) else some (h, false))
  else none
/-- a play at hand: the state, clocks, times of words, how many choices, the choices -/
abbrev zPy : Type := zS × zKt × (Nat → Int32) × Nat × (Nat → Nat)
def yS (Y : zPy) : zS := Y.1
def yK (Y : zPy) : zKt := Y.2.1
def yT (Y : zPy) : Nat → Int32 := Y.2.2.1
def yn (Y : zPy) : Nat := Y.2.2.2.1
def yc (Y : zPy) : Nat → Nat := Y.2.2.2.2
def zdo (P : zPr) (o : Nat → Bool) (n r : Nat) (nr wd : Int32) (Y : zPy) (h f : Nat) (b : Bool) : zPy :=
  (zmove P o n r (yS Y) h f, (zmvK P n r (yS Y) h f nr wd (yK Y) (yT Y)).1, (zmvK P n r (yS Y) h f nr wd (yK Y) (yT Y)).2, if b = true then yn Y + 1 else yn Y, if b = true then va_up (yc Y) (yn Y) f else yc Y)
def zone (P : zPr) (o : Nat → Bool) (n r : Nat) (nr wd : Int32) (ch : Nat → Option Nat) (Y : zPy) (h : Nat) : Option zPy := (zpick P n r (yS Y) h (ch (yn Y))).map fun q => zdo P o n r nr wd Y h q.1 q.2
def zfor (P : zPr) (o : Nat → Bool) (n r : Nat) (nr wd : Int32) (ch : Nat → Option Nat) (Y : zPy) : Nat → Nat → Option zPy
  | 0, _ => none
  | d + 1, h => match zone P o n r nr wd ch Y h with
    | some Z => some Z
    | none => zfor P o n r nr wd ch Y d (h + 1)
def zwhl (P : zPr) (o : Nat → Bool) (n r : Nat) (nr wd : Int32) (ch : Nat → Option Nat) : Nat → zPy → zPy
  | 0, Y => Y
  | F + 1, Y => match zfor P o n r nr wd ch Y n 0 with
    | some Z => zwhl P o n r nr wd ch F Z
    | none => Y
def zY0 (P : zPr) (o : Nat → Bool) (n : Nat) : zPy := (zbeg P o n, (fun _ => 0, fun _ => 0, fun _ => 0), fun _ => 0, 0, fun _ => 0)
def zplay (P : zPr) (o : Nat → Bool) (n r : Nat) (nr wd : Int32) (ch : Nat → Option Nat) : zPy := zwhl P o n r nr wd ch 330 (zY0 P o n)
/-- the class is at a play -/
def zPR (R : Nat → Prop) (P : zPr) (A : Nat → Nat) (E : g_E) (G : g_G) (x l : Nat) (o : Nat → Bool) (n : Nat) (ch : Nat → Option Nat) (Y : zPy) : Prop :=
  zCt R P A E G x o ∧ zCL P A G l n (yS Y) (yT Y) ∧ zKr G x (yK Y) ∧ zgood P n (yS Y) ∧ yn Y ≤ zphi n (yS Y) ∧ gI G x 25 = Int32.ofNat (yn Y) ∧ (∀ i, i < yn Y → gI G (x + 25) i = Int32.ofNat (yc Y i)) ∧
  ∃ m, m ≤ 16 ∧ gI G x 26 = Int32.ofNat m ∧ (∀ k, m ≤ k → ch k = none) ∧ ∀ k, k < m → ∃ c, ch k = some c ∧ c < n ∧ gI G (x + 26) k = Int32.ofNat c
def zFp (x l a : Nat) : Prop := zFx x l a ∨ a = x ∨ a = x + 25
section Z25b
variable {P : zPr} {A : Nat → Nat} {E : g_E} {G : g_G} {l n : Nat} {S : zS} {T : Nat → Int32} {R : Nat → Prop} {x tx r : Nat} {o : Nat → Bool} {ch : Nat → Option Nat} {Y : zPy}
theorem zc_next (h : zPR R P A E G x l o n ch Y) : fX1_nextChoice E x G = some (match ch (yn Y) with
    | none => -1
    | some c => Int32.ofNat c, G) := by
  obtain ⟨hX, hC, hK, hg, hy, h25, hc, m, hm, h26, hm1, hm2⟩ := h
  have hXS := hX.1
  have hP := hX.2.1.1.1
  have hn := hC.n8
  have hb := zphi_bd hP hg.1
  simp only [fX1_nextChoice, ↓zx_rI, ↓zx_rT, ↓zx_chk, ↓zx_ce, ↓zx_r5, ↓zx_r6, ↓zx_r7, ↓zx_r8, ↓zx_r9, ↓zx_r12, ↓zx_r16, ↓zx_r17, ↓zx_r19, ↓zx_r20, ↓zx_r22, ↓zx_r23, ↓zx_r24, ↓zx_r28, ↓zx_r29, ↓zx_r30, ↓zx_r32, ↓zx_a4, ↓zx_a5, ↓zx_a6, ↓zx_a7, ↓zx_a8, ↓zx_a9, ↓zx_a12, ↓zx_a13, ↓zx_a25, ↓zx_a26, ↓zx_a27, ↓zx_a28, ↓zx_a29, ↓zx_a30, zXS_I, hXS, h25, h26]
  by_cases c : m ≤ yn Y
  · rw [if_pos (zi_le c (by omega)), hm1 _ c]
  · obtain ⟨c1, c2, c3, c4⟩ := hm2 (yn Y) (by omega)
    have i16 : yn Y < 16 := by omega
    rw [if_neg (zi_nle (by omega) (by omega)), c2]
    simp only [↓zx_rI, ↓zx_rT, ↓zx_chk, ↓zx_ce, ↓zx_r5, ↓zx_r6, ↓zx_r7, ↓zx_r8, ↓zx_r9, ↓zx_r12, ↓zx_r16, ↓zx_r17, ↓zx_r19, ↓zx_r20, ↓zx_r22, ↓zx_r23, ↓zx_r24, ↓zx_r28, ↓zx_r29, ↓zx_r30, ↓zx_r32, ↓zx_a4, ↓zx_a5, ↓zx_a6, ↓zx_a7, ↓zx_a8, ↓zx_a9, ↓zx_a12, ↓zx_a13, ↓zx_a25, ↓zx_a26, ↓zx_a27, ↓zx_a28, ↓zx_a29, ↓zx_a30, zXS_I, hXS, i16, c4]
theorem zc_b146 {h f : Nat} {b : Bool} (hl : l = x + 14 ∨ l = x + 31) (hR : zPR R P A E G x l o n ch Y) (hh : h < n) (hf : f < 8) (hr : r < 1000) (hc : zcan P n r (yS Y) h f = true) :
    ∃ G1, fX1_goesOn_b146 E x (some l) (Int32.ofNat h) (Int32.ofNat r) (Int32.ofNat f) (if b = true then Int32.ofNat f else -1) G = some (1, G1) ∧ zFr (zFp x l) G G1 ∧ zPR R P A E G1 x l o n ch (zdo P o n r (gI G x 2) (gI G x 3) Y h f b) ∧ (∀ j, j ≠ 25 → gI G1 x j = gI G x j) ∧ gR G1 x = gR G x := by
  obtain ⟨hX, hC, hK, hg, hy, h25, hcc, m, hm, h26, hm1, hm2⟩ := hR
  have hx : zLx x l := by unfold zLx; omega
  have hXS := hX.1
  have hP := hX.2.1.1.1
  have hB := hX.2.2.1
  have hn := hC.n8
  obtain ⟨ha, hs, hv⟩ := zcan_iff.1 hc
  obtain ⟨G1, g1, g2, g3, g4⟩ := zc_move (f := f) (r := r) hx hC hX hg.1 hK hh hf hr (fun _ => hg.m320 hP hn hh hs ha) hc
  have ok := zmove_ok (o := o) (r := r) (f := f) hP hn hg.1 hh hc
  have gd := zmove_good (o := o) hP hn hg hh hc
  have bd := zphi_bd hP ok.1
  have hX1 := hX.fr g2 (fun a ha => zFx.sub hx ha)
  have hXS1 := hX1.1
  have n0 : ¬ zFx x l x := by unfold zFx zIn; omega
  have n25 : ¬ zFx x l (x + 25) := by unfold zFx zIn; omega
  have n26 : ¬ zFx x l (x + 26) := by unfold zFx zIn; omega
  have e0 : gI G1 x = gI G x := g2.I n0
  have eR : gR G1 x = gR G x := g2.R n0
  have e25 : gI G1 (x + 25) = gI G (x + 25) := g2.I n25
  have e26 : gI G1 (x + 26) = gI G (x + 26) := g2.I n26
  have hi : yn Y < 320 := by omega
  rw [fX1_goesOn_b146]
  simp only [↓zx_rI, ↓zx_rT, ↓zx_chk, ↓zx_ce, ↓zx_r5, ↓zx_r6, ↓zx_r7, ↓zx_r8, ↓zx_r9, ↓zx_r12, ↓zx_r16, ↓zx_r17, ↓zx_r19, ↓zx_r20, ↓zx_r22, ↓zx_r23, ↓zx_r24, ↓zx_r28, ↓zx_r29, ↓zx_r30, ↓zx_r32, ↓zx_a4, ↓zx_a5, ↓zx_a6, ↓zx_a7, ↓zx_a8, ↓zx_a9, ↓zx_a12, ↓zx_a13, ↓zx_a25, ↓zx_a26, ↓zx_a27, ↓zx_a28, ↓zx_a29, ↓zx_a30, zXS_I, hXS, g1, Option.bind_some]
  cases b
  · rw [if_pos (show (if false = true then Int32.ofNat f else (-1 : Int32)) = -1 from rfl)]
    refine ⟨G1, by simp, g2.mono fun a q => Or.inl q, ⟨hX1, g3, g4, gd, ?_, by rw [e0]; exact h25, fun i hi => by rw [e25]; exact hcc i hi, m, hm, by rw [e0]; exact h26, hm1, fun k hk => ?_⟩, fun j _ => congrFun e0 j, eR⟩
    · show yn Y ≤ zphi n (zmove P o n r (yS Y) h f)
      omega
    · obtain ⟨c, c1, c2, c3⟩ := hm2 k hk
      exact ⟨c, c1, c2, by rw [e26]; exact c3⟩
  · have nf : ¬ (if true = true then Int32.ofNat f else (-1 : Int32)) = -1 := by
      rw [if_pos rfl]
      intro q
      have := congrArg Int32.toInt q
      rw [Int32.toInt_ofNat_of_lt (by omega)] at this
      have e : ((-1 : Int32)).toInt = -1 := rfl
      omega
    have h25' : gI G1 x 25 = Int32.ofNat (yn Y) := by rw [e0]; exact h25
    have h25b : ∀ v, gI (gsI G1 (x + 25) (yn Y) v) x 25 = Int32.ofNat (yn Y) := fun v => by rw [zq_II, if_neg (by omega), h25']
    rw [if_neg nf]
    simp only [↓zx_rI, ↓zx_rT, ↓zx_chk, ↓zx_ce, ↓zx_r5, ↓zx_r6, ↓zx_r7, ↓zx_r8, ↓zx_r9, ↓zx_r12, ↓zx_r16, ↓zx_r17, ↓zx_r19, ↓zx_r20, ↓zx_r22, ↓zx_r23, ↓zx_r24, ↓zx_r28, ↓zx_r29, ↓zx_r30, ↓zx_r32, ↓zx_a4, ↓zx_a5, ↓zx_a6, ↓zx_a7, ↓zx_a8, ↓zx_a9, ↓zx_a12, ↓zx_a13, ↓zx_a25, ↓zx_a26, ↓zx_a27, ↓zx_a28, ↓zx_a29, ↓zx_a30, zXS_I, ↓zx_pI, ↓zx_pZ, ↓zx_pR, ↓zx_s4, ↓zx_s5, ↓zx_s6, ↓zx_s7, ↓zx_s8, ↓zx_s12, ↓zx_s13, ↓zx_s25, ↓zx_s26, ↓zx_s27, ↓zx_s28, ↓zx_s29, ↓zx_s30, hXS1, hB, hi, h25', h25b, zi_inc, or_true, ↓reduceIte]
    generalize hG2 : gsI (gsI G1 (x + 25) (yn Y) (Int32.ofNat f)) x 25 (Int32.ofNat (yn Y + 1)) = G2
    have f2 : zFr (fun a => a = x ∨ a = x + 25) G1 G2 := by
      subst hG2
      exact (zFr.wI (Or.inr rfl)).wI2 (Or.inl rfl)
    have ex : ∀ j, j ≠ 25 → gI G2 x j = gI G x j := fun j hj => by
      subst hG2
      rw [zq_II, if_neg (fun q => hj q.2), zq_II, if_neg (by omega), e0]
    refine ⟨G2, rfl, (g2.mono fun a q => Or.inl q).trans (f2.mono fun a q => Or.inr q), ⟨?_, g3.fr f2 (fun a ha q => by unfold zIn at ha; omega), ?_, gd, ?_, ?_, fun i hi => ?_, m, hm, by rw [ex 26 (by decide)]; exact h26, hm1, fun k hk => ?_⟩, ex, ?_⟩
    · refine ⟨?_, hX1.2.1.fr f2 (fun a ha q => by have := hX1.2.2.2.1 a ha; omega), hB, hX1.2.2.2.1, fun s hs => by rw [f2.I (by omega)]; exact hX1.2.2.2.2 s hs⟩
      subst hG2
      exact hXS1
    · intro j hj
      rw [f2.I (by omega), f2.I (by omega), f2.I (by omega)]
      exact g4 j hj
    · show yn Y + 1 ≤ zphi n (zmove P o n r (yS Y) h f)
      omega
    · subst hG2
      rw [zq_II, if_pos ⟨rfl, rfl⟩]
      rfl
    · have hi : i < yn Y + 1 := hi
      subst hG2
      rw [zq_II, if_neg (by omega), zq_II]
      show _ = Int32.ofNat (if i = yn Y then f else yc Y i)
      by_cases c : i = yn Y
      · rw [if_pos ⟨rfl, c⟩, if_pos c]
      · rw [if_neg (fun q => c q.2), if_neg c, e25, hcc i (by omega)]
    · obtain ⟨c, c1, c2, c3⟩ := hm2 k hk
      refine ⟨c, c1, c2, ?_⟩
      subst hG2
      rw [zq_II, if_neg (by omega), zq_II, if_neg (by omega), e26, c3]
    · subst hG2
      exact eR
theorem zc_goesOn {h : Nat} (hl : l = x + 14 ∨ l = x + 31) (hR : zPR R P A E G x l o n ch Y) (hh : h < n) (hr : r < 1000) :
    ∃ G1, fX1_goesOn E x (some l) (Int32.ofNat h) (Int32.ofNat r) G = some (zb (zone P o n r (gI G x 2) (gI G x 3) ch Y h).isSome, G1) ∧ zFr (zFp x l) G G1 ∧ zPR R P A E G1 x l o n ch ((zone P o n r (gI G x 2) (gI G x 3) ch Y h).getD Y) ∧ (∀ j, j ≠ 25 → gI G1 x j = gI G x j) ∧ gR G1 x = gR G x := by
  have hR0 := hR
  have hnx := zc_next (E := E) hR
  obtain ⟨hX, hC, hK, hg, hy, h25, hcc, m, hm, h26, hm1, hm2⟩ := hR
  have hXS := hX.1
  have hP := hX.2.1.1.1
  have hn := hC.n8
  have hL := hC.1
  have h8 : h < 8 := by omega
  have no : zone P o n r (gI G x 2) (gI G x 3) ch Y h = none → ∀ z : Option (Int32 × g_G), z = some (0, G) → ∃ G1, z = some (zb (zone P o n r (gI G x 2) (gI G x 3) ch Y h).isSome, G1) ∧ zFr (zFp x l) G G1 ∧ zPR R P A E G1 x l o n ch ((zone P o n r (gI G x 2) (gI G x 3) ch Y h).getD Y) ∧ (∀ j, j ≠ 25 → gI G1 x j = gI G x j) ∧ gR G1 x = gR G x := fun q z hz => by
    rw [q, hz]
    exact ⟨G, rfl, zFr.refl _ _, hR0, fun _ _ => rfl, rfl⟩
  have yes : ∀ (f : Nat) (b : Bool), zpick P n r (yS Y) h (ch (yn Y)) = some (f, b) → f < 8 → zcan P n r (yS Y) h f = true → ∀ z : Option (Int32 × g_G), z = fX1_goesOn_b146 E x (some l) (Int32.ofNat h) (Int32.ofNat r) (Int32.ofNat f) (if b = true then Int32.ofNat f else -1) G → ∃ G1, z = some (zb (zone P o n r (gI G x 2) (gI G x 3) ch Y h).isSome, G1) ∧ zFr (zFp x l) G G1 ∧ zPR R P A E G1 x l o n ch ((zone P o n r (gI G x 2) (gI G x 3) ch Y h).getD Y) ∧ (∀ j, j ≠ 25 → gI G1 x j = gI G x j) ∧ gR G1 x = gR G x := fun f b q hf hc z hz => by
    have e : zone P o n r (gI G x 2) (gI G x 3) ch Y h = some (zdo P o n r (gI G x 2) (gI G x 3) Y h f b) := by
      unfold zone
      rw [q]
      rfl
    rw [e, hz]
    exact zc_b146 hl hR0 hh hf hr hc
  have hmv := zmvs_bits (P := P) (r := r) (S := yS Y) hh
  rw [fX1_goesOn]
  simp only [↓zx_rI, ↓zx_rT, ↓zx_chk, ↓zx_ce, ↓zx_r5, ↓zx_r6, ↓zx_r7, ↓zx_r8, ↓zx_r9, ↓zx_r12, ↓zx_r16, ↓zx_r17, ↓zx_r19, ↓zx_r20, ↓zx_r22, ↓zx_r23, ↓zx_r24, ↓zx_r28, ↓zx_r29, ↓zx_r30, ↓zx_r32, ↓zx_a4, ↓zx_a5, ↓zx_a6, ↓zx_a7, ↓zx_a8, ↓zx_a9, ↓zx_a12, ↓zx_a13, ↓zx_a25, ↓zx_a26, ↓zx_a27, ↓zx_a28, ↓zx_a29, ↓zx_a30, zXS_I, hXS, zc_moves hC hX hg.1 hh hr, Option.bind_some, hmv]
  have z0 := zbits_0 (f := zmf P n r (yS Y) h) hn
  by_cases c0 : zbits (zmf P n r (yS Y) h) n = 0
  · rw [if_neg (fun q => q c0)]
    rw [z0] at c0
    refine no ?_ _ (by simp)
    unfold zone zpick
    have nz : ∀ f, f < n → zmf P n r (yS Y) h f = false := fun f hf => by
      cases q : zmf P n r (yS Y) h f
      · rfl
      · rw [zany_t hf q] at c0
        cases c0
    by_cases c4 : zK P (yS Y) h = 4
    · have nz' : ∀ f, f < n → zcan P n r (yS Y) h f = false := fun f hf => by
        have := nz f hf
        unfold zmf at this
        rwa [if_pos c4] at this
      rw [if_pos c4]
      cases q : ch (yn Y) with
      | none =>
        have : zany (fun f => zcan P n r (yS Y) h f) n = false := by
          rw [← Bool.not_eq_true, zany_iff]
          rintro ⟨j, h1, h2⟩
          rw [nz' j h1] at h2
          cases h2
        simp [this]
      | some c =>
        have hc : c < n := by
          by_cases cm : m ≤ yn Y
          · rw [hm1 _ cm] at q
            cases q
          · obtain ⟨c', c1, c2, c3⟩ := hm2 (yn Y) (by omega)
            rw [q] at c1
            cases c1
            exact c2
        simp [nz' c hc]
    · rw [if_neg c4]
      have : zcan P n r (yS Y) h 0 = false := by
        have := nz h hh
        unfold zmf at this
        rw [if_neg c4, decide_eq_true rfl, Bool.true_and] at this
        exact this
      simp [this]
  · rw [if_pos c0]
    have z1 : zany (zmf P n r (yS Y) h) n = true := by
      rw [z0] at c0
      simpa using c0
    obtain ⟨j, hj1, hj2⟩ := zany_iff.1 z1
    obtain ⟨ha, hs, hv⟩ := zcan_iff.1 (zmf_can hj2)
    obtain ⟨k1, k2, k3, k4⟩ := hX.2.1.1.2.2 _ ha
    have hk7 : zkd P (hat (sh (yS Y) h)) ≤ 7 := by
      rcases hg.1 h hh with w | w
      · have := hP.1
        omega
      · exact w.2.1
    simp only [↓zl_rI, ↓zl_r3, ↓zl_r4, ↓zl_r5, ↓zl_r6, ↓zl_r7, ↓zl_r8, ↓zl_r9, ↓zl_r10, ↓zl_r11, ↓zl_r12, ↓zl_chk, ↓zl_a1, ↓zl_a2, ↓zl_a3, ↓zl_a4, ↓zl_a5, ↓zl_a6, ↓zl_a7, ↓zl_a8, ↓zl_a9, ↓zl_a10, zLS_I, hL, h8, (hC.hd hh).1, zadr_s ha, zp_rI k1, k2]
    by_cases c4 : zK P (yS Y) h = 4
    · have e4 : zkd P (hat (sh (yS Y) h)) = 4 := c4
      have ebits : zbits (zmf P n r (yS Y) h) n = zbits (fun f => zcan P n r (yS Y) h f) n := zbits_congr fun j _ => by
        unfold zmf
        rw [if_pos c4]
      rw [e4, if_neg (show ¬ ¬ Int32.ofNat 4 = 4 by decide)]
      simp only [hnx, Option.bind_some]
      cases q : ch (yn Y) with
      | none =>
        have hany : zany (fun f => zcan P n r (yS Y) h f) n = true := zany_t hj1 (zmf_can hj2)
        have lo := zlow_ok (f := fun f => zcan P n r (yS Y) h f) (d := n) (i := 0) (Nat.zero_le j) (by omega) (zmf_can hj2)
        refine yes (zlow (fun f => zcan P n r (yS Y) h f) n 0) true ?_ (by omega) lo.2 _ ?_
        · unfold zpick
          rw [if_pos c4, q]
          simp [hany]
        · simp only [fX1_goesOn_b63, ↓reduceIte, not_true_eq_false, ebits]
          rw [zc_ntz hn hj1 (f := fun f => zcan P n r (yS Y) h f) (zmf_can hj2), Option.bind_some]
          rfl
      | some c =>
        have hc : c < n := by
          by_cases cm : m ≤ yn Y
          · rw [hm1 _ cm] at q
            cases q
          · obtain ⟨c', c1, c2, c3⟩ := hm2 (yn Y) (by omega)
            rw [q] at c1
            cases c1
            exact c2
        have nm1 : ¬ Int32.ofNat c = -1 := fun w => by
          have := congrArg Int32.toInt w
          rw [Int32.toInt_ofNat_of_lt (by omega)] at this
          have e : ((-1 : Int32)).toInt = -1 := rfl
          omega
        dsimp only
        rw [if_neg nm1]
        simp only [zbits_test _ hn hc]
        have ez : zmf P n r (yS Y) h c = zcan P n r (yS Y) h c := by
          unfold zmf
          rw [if_pos c4]
        rw [ez]
        cases cc : zcan P n r (yS Y) h c
        · rw [if_neg (fun w => w rfl)]
          refine no ?_ _ (by simp)
          unfold zone zpick
          rw [if_pos c4, q]
          simp [cc]
        · rw [if_pos (by decide)]
          refine yes c true ?_ (by omega) cc _ ?_
          · unfold zpick
            rw [if_pos c4, q]
            simp [cc]
          · unfold fX1_goesOn_b63 fX1_goesOn_b76
            rw [if_pos nm1, if_pos rfl]
    · have hc0 : zcan P n r (yS Y) h 0 = true := by
        unfold zmf at hj2
        rw [if_neg c4, Bool.and_eq_true] at hj2
        exact hj2.2
      have hch : zcan P n r (yS Y) h h = true := by
        unfold zcan at hc0 ⊢
        rw [if_neg (show ¬ zK P (yS Y) h = 4 from c4)] at hc0 ⊢
        exact hc0
      have n4 : ¬ Int32.ofNat (zkd P (hat (sh (yS Y) h))) = 4 := fun w => c4 (zi_inj (a := zkd P (hat (sh (yS Y) h))) (b := 4) (by omega) (by omega) w)
      rw [if_pos n4]
      by_cases c2 : zK P (yS Y) h ≤ 2
      · have c2' : zkd P (hat (sh (yS Y) h)) ≤ 2 := c2
        rw [if_neg (show ¬ (2 : Int32) < Int32.ofNat (zkd P (hat (sh (yS Y) h))) from zi_nlt (a := 2) (b := zkd P (hat (sh (yS Y) h))) c2' (by omega))]
        simp only [zc_mayLie hC hX.2.1 hg.1 hh ha hs c2 hr, Option.bind_some, zb_n0]
        cases hmay : zmay P n r (yS Y) h
        · rw [if_neg (by decide)]
          rw [if_pos c2, hmay, Bool.false_or] at hv
          obtain ⟨t1, t2, t3⟩ := hg.1.to hn hh ha hP.1 hs (by omega)
          have tt := zc_to (E := E) hC hX.2.1 hh ha c2
          rw [t1] at tt
          obtain ⟨q1, -⟩ := (hX.2.1.2 _ ha).2.1 c2
          have kk : (15 : Nat) ≤ gcl G (A (hat (sh (yS Y) h))) ∧ gcl G (A (hat (sh (yS Y) h))) ≤ 15 := by omega
          have hrec : hat (sh (yS Y) (zto P n (yS Y) h)) < zN P ∧ (zK P (yS Y) (zto P n (yS Y) h) = 3 ∨ zK P (yS Y) (zto P n (yS Y) h) = 4) := by
            unfold zhov at hv
            simp only [Bool.and_eq_true, Bool.or_eq_true, zisAt_iff] at hv
            rcases hv.1.1 with w | w
            · exact ⟨w.1.1, Or.inl w.1.2.2⟩
            · exact ⟨w.1, Or.inr w.2.2⟩
          obtain ⟨j1, j2, j3, j4⟩ := hX.2.1.1.2.2 _ hrec.1
          have t8 : zto P n (yS Y) h < 8 := by omega
          simp only [↓zl_rI, ↓zl_r3, ↓zl_r4, ↓zl_r5, ↓zl_r6, ↓zl_r7, ↓zl_r8, ↓zl_r9, ↓zl_r10, ↓zl_r11, ↓zl_r12, ↓zl_chk, ↓zl_a1, ↓zl_a2, ↓zl_a3, ↓zl_a4, ↓zl_a5, ↓zl_a6, ↓zl_a7, ↓zl_a8, ↓zl_a9, ↓zl_a10, zLS_I, hL, h8, t8, (hC.hd hh).1, (hC.hd t2).1, zadr_s ha, zadr_s hrec.1, zp_cast kk, zp_chk q1, tt, Option.bind_some, zp_rI j1, j2]
          by_cases e : zK P (yS Y) (zto P n (yS Y) h) = 4
          · have e' : zkd P (hat (sh (yS Y) (zto P n (yS Y) h))) = 4 := e
            rw [e', if_neg (show ¬ ¬ Int32.ofNat 4 = 4 by decide)]
            simp only [↓zx_rI, ↓zx_rT, ↓zx_chk, ↓zx_ce, ↓zx_r5, ↓zx_r6, ↓zx_r7, ↓zx_r8, ↓zx_r9, ↓zx_r12, ↓zx_r16, ↓zx_r17, ↓zx_r19, ↓zx_r20, ↓zx_r22, ↓zx_r23, ↓zx_r24, ↓zx_r28, ↓zx_r29, ↓zx_r30, ↓zx_r32, ↓zx_a4, ↓zx_a5, ↓zx_a6, ↓zx_a7, ↓zx_a8, ↓zx_a9, ↓zx_a12, ↓zx_a13, ↓zx_a25, ↓zx_a26, ↓zx_a27, ↓zx_a28, ↓zx_a29, ↓zx_a30, zXS_I, hXS, hnx, Option.bind_some]
            cases q : ch (yn Y) with
            | none =>
              refine yes h true ?_ h8 hch _ ?_
              · unfold zpick
                rw [if_neg c4, if_pos hc0, if_pos ⟨c2, hmay, e⟩, q, if_pos (Or.inl rfl)]
              · simp only [↓reduceIte, fX1_goesOn_b143]
            | some c =>
              have hc : c < n := by
                by_cases cm : m ≤ yn Y
                · rw [hm1 _ cm] at q
                  cases q
                · obtain ⟨c', c1, c2, c3⟩ := hm2 (yn Y) (by omega)
                  rw [q] at c1
                  cases c1
                  exact c2
              have nm1 : ¬ Int32.ofNat c = -1 := fun w => by
                have := congrArg Int32.toInt w
                rw [Int32.toInt_ofNat_of_lt (by omega)] at this
                have e : ((-1 : Int32)).toInt = -1 := rfl
                omega
              dsimp only
              rw [if_neg nm1]
              by_cases ce : c = h
              · rw [if_pos (by rw [ce])]
                refine yes h true ?_ h8 hch _ ?_
                · unfold zpick
                  rw [if_neg c4, if_pos hc0, if_pos ⟨c2, hmay, e⟩, q, ce, if_pos (Or.inr rfl)]
                · simp only [↓reduceIte, fX1_goesOn_b143]
              · rw [if_neg (fun w => ce (zi_inj (by omega) (by omega) w))]
                refine no ?_ _ (by simp)
                unfold zone zpick
                rw [if_neg c4, if_pos hc0, if_pos ⟨c2, hmay, e⟩, q, if_neg (fun w => by
                  rcases w with w | w
                  · cases w
                  · exact ce (Option.some.inj w))]
                rfl
          · have e' : ¬ Int32.ofNat (zkd P (hat (sh (yS Y) (zto P n (yS Y) h)))) = 4 := fun w => e (zi_inj (a := zkd P (hat (sh (yS Y) (zto P n (yS Y) h)))) (b := 4) (by have := (hP.2 _ hrec.1).1; omega) (by omega) w)
            rw [if_pos e']
            refine yes h false ?_ h8 hch _ (by simp)
            unfold zpick
            rw [if_neg c4, if_pos hc0, if_neg (fun w => e w.2.2)]
        · rw [if_pos rfl]
          refine yes h false ?_ h8 hch _ (by simp)
          unfold zpick
          rw [if_neg c4, if_pos hc0, if_neg (fun w => by rw [hmay] at w; cases w.2.1)]
      · have c2' : ¬ zkd P (hat (sh (yS Y) h)) ≤ 2 := c2
        rw [if_pos (show (2 : Int32) < Int32.ofNat (zkd P (hat (sh (yS Y) h))) from zi_lt (a := 2) (by omega) (by omega))]
        refine yes h false ?_ h8 hch _ (by simp)
        unfold zpick
        rw [if_neg c4, if_pos hc0, if_neg (fun w => c2 w.1)]
end Z25b
