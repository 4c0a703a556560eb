/-! THE PLAIN LAW, 18: lists of the JDK's that grow -/
set_option maxRecDepth 100000
/-- only cells of X were written among those there were -/
def zFn (X : Nat → Prop) (G G1 : g_G) : Prop := gsz G ≤ gsz G1 ∧ ∀ a, a < gsz G → gcl G1 a = gcl G a ∧ gln G1 a = gln G a ∧ (¬ X a → gI G1 a = gI G a ∧ gR G1 a = gR G a)
def zcap (c : Nat) : Nat := c + if 1 < c / 2 then c / 2 else 1
def zfit (G : g_G) (pe n : Nat) : Prop := ∀ i, i < n → ∀ b, gR G pe i = some b → b < gsz G ∧ gasg 120 (gcl G b) = true
section Z18
variable {P : zPr} {A : Nat → Nat} {E : g_E} {G G1 : g_G} {X : Nat → Prop} {pl pe n : Nat}
theorem zFn.refl : zFn X G G := ⟨Nat.le_refl _, fun _ _ => ⟨rfl, rfl, fun _ => ⟨rfl, rfl⟩⟩⟩
theorem zFr.fn (h : zFr X G G1) : zFn X G G1 := ⟨Nat.le_of_eq h.1.symm, fun a _ => ⟨congrFun h.cl a, congrFun h.ln a, fun q => ⟨h.I q, h.R q⟩⟩⟩
theorem zFn.trans {X' : Nat → Prop} {G2 : g_G} (h : zFn X G G1) (k : zFn X' G1 G2) (hs : ∀ a, a < gsz G → X' a → X a) : zFn X G G2 :=
  ⟨Nat.le_trans h.1 k.1, fun a ha => ⟨((k.2 a (Nat.lt_of_lt_of_le ha h.1)).1).trans (h.2 a ha).1, ((k.2 a (Nat.lt_of_lt_of_le ha h.1)).2.1).trans (h.2 a ha).2.1, fun q =>
    ⟨((k.2 a (Nat.lt_of_lt_of_le ha h.1)).2.2 (fun w => q (hs a ha w))).1.trans ((h.2 a ha).2.2 q).1, ((k.2 a (Nat.lt_of_lt_of_le ha h.1)).2.2 (fun w => q (hs a ha w))).2.trans ((h.2 a ha).2.2 q).2⟩⟩⟩
theorem zFn.mono {X' : Nat → Prop} (h : zFn X G G1) (hs : ∀ a, a < gsz G → X a → X' a) : zFn X' G G1 := ⟨h.1, fun a ha => ⟨(h.2 a ha).1, (h.2 a ha).2.1, fun q => (h.2 a ha).2.2 fun w => q (hs a ha w)⟩⟩
theorem zFn.new {c m : Nat} : zFn X G (gnew G c m) := ⟨Nat.le_succ _, fun a ha => ⟨if_neg (Nat.ne_of_lt ha), if_neg (Nat.ne_of_lt ha), fun _ => ⟨if_neg (Nat.ne_of_lt ha), if_neg (Nat.ne_of_lt ha)⟩⟩⟩
theorem zFn.cl (h : zFn X G G1) {a : Nat} (ha : a < gsz G) : gcl G1 a = gcl G a := (h.2 a ha).1
theorem zFn.ln (h : zFn X G G1) {a : Nat} (ha : a < gsz G) : gln G1 a = gln G a := (h.2 a ha).2.1
theorem zFn.I (h : zFn X G G1) {a : Nat} (ha : a < gsz G) (q : ¬ X a) : gI G1 a = gI G a := ((h.2 a ha).2.2 q).1
theorem zFn.R (h : zFn X G G1) {a : Nat} (ha : a < gsz G) (q : ¬ X a) : gR G1 a = gR G a := ((h.2 a ha).2.2 q).2
theorem z_shr1 : ∀ c, c < 1024 → Int32.ofNat c >>> ((1 : Int32) &&& 31) = Int32.ofNat (c / 2) := by decide +kernel
theorem zc_newLen {c : Nat} (hc : c < 1000) : fJ11_newLength E (Int32.ofNat c) (Int32.ofNat (c + 1) - Int32.ofNat c) (Int32.ofNat c >>> ((1 : Int32) &&& 31)) G = some (Int32.ofNat (zcap c), G) := by
  have e : Int32.ofNat (c + 1) - Int32.ofNat c = Int32.ofNat 1 := by
    rw [← Int32.ofNat_sub _ _ (by omega)]
    congr 1
    omega
  have e2 : (if Int32.ofNat 1 < Int32.ofNat (c / 2) then Int32.ofNat (c / 2) else Int32.ofNat 1) = Int32.ofNat (if 1 < c / 2 then c / 2 else 1) := by
    by_cases q : 1 < c / 2
    · rw [if_pos (zi_lt q (by omega)), if_pos q]
    · rw [if_neg (zi_nlt (by omega) (by omega)), if_neg q]
  have hz : zcap c < 2000 ∧ 0 < zcap c := by unfold zcap; split <;> omega
  have e3 : Int32.ofNat c + Int32.ofNat (if 1 < c / 2 then c / 2 else 1) = Int32.ofNat (zcap c) := zi_add _ _
  unfold fJ11_newLength
  rw [z_shr1 c (by omega), e, e2, e3]
  rw [if_neg (show ¬ Int32.ofNat (zcap c) ≤ 0 from zi_nle (b := 0) hz.2 (by omega)), if_neg (show ¬ (2147483639 : Int32) < Int32.ofNat (zcap c) from zi_nlt (a := 2147483639) (by omega) (by omega))]
theorem zcap_gt (c : Nat) : c < zcap c := by unfold zcap; split <;> omega
theorem zcap_4 {c : Nat} (hc : 2 ≤ c) : 4 * c + zcap c ≤ 4 * zcap c := by unfold zcap; split <;> omega
/-- the heap behind a list's growth -/
def zgrow (G : g_G) (pl pe n : Nat) : g_G := gsR (gsz (gnew G 120 (zcap n)), gsl (gnew G 120 (zcap n)), gcl (gnew G 120 (zcap n)), gln (gnew G 120 (zcap n)), gcpy (gI (gnew G 120 (zcap n))) pe (gsz G) 0 0 n, gcpy (gL (gnew G 120 (zcap n))) pe (gsz G) 0 0 n, gcpy (gR (gnew G 120 (zcap n))) pe (gsz G) 0 0 n) pl 1 (some (gsz G))
theorem zAL.lt (h : zAL G pl pe n) (h1 : pl < gsz G) (h2 : pe < gsz G) : pl ≠ gsz G ∧ pe ≠ gsz G := by omega
theorem zc_grow (h : zAL G pl pe n) (h1 : pl < gsz G) (h2 : pe < gsz G) (hn : n = gln G pe) (hn0 : 0 < n) (hc : n < 1000) (hB : gB E ≤ pl) (hBz : gB E ≤ gsz G) (hf : zfit G pe n) (hm : gsz G + 1 ≤ gMc E) (hs : gsl G + zcap n ≤ gMs E) :
    fJ2_grow E pl G = some (some (gsz G), zgrow G pl pe n) := by
  obtain ⟨a1, a2, a3, a4, a5, a6⟩ := h
  have kk : (17 : Nat) ≤ gcl G pl ∧ gcl G pl ≤ 17 := by omega
  have hz : zcap n < 2000 := by unfold zcap; split <;> omega
  have hg := zcap_gt n
  have l120 : 100 ≤ gcl G pe := by omega
  have e7 : ¬ ¬ (some (gA E 7) = some (gA E 7)) := fun q => q rfl
  have p0 : 0 < Int32.ofNat (gln G pe) := zi_lt (a := 0) (by omega) (by omega)
  rw [fJ2_grow]
  simp only [zp_rI kk, zp_chk a1, a4, zi_inc, fJ2_grow_2, zp_rR kk, a3, zp_len l120]
  rw [if_pos p0, ← hn, zc_newLen hc, Option.bind_some]
  simp only [zp_rR kk, a3, fJ13_copyOf_2, zp_chk a2, fJ13_copyOf_3, if_neg e7, zp_newA (show zcap n ≤ 67108864 by omega) hm hs]
  have lN : 100 ≤ gcl (gnew G 120 (zcap n)) pe := by
    rw [zq_clN, if_neg (by omega)]
    exact l120
  have eN : gln (gnew G 120 (zcap n)) pe = n := by rw [zq_lnN, if_neg (by omega), hn]
  rw [zp_len lN, eN, if_neg (zi_nlt (Nat.le_of_lt hg) (by omega))]
  have hcp : gcopy E (gnew G 120 (zcap n)) (some pe) 0 (some (gsz G)) 0 (Int32.ofNat n) = some (gsz (gnew G 120 (zcap n)), gsl (gnew G 120 (zcap n)), gcl (gnew G 120 (zcap n)), gln (gnew G 120 (zcap n)), gcpy (gI (gnew G 120 (zcap n))) pe (gsz G) 0 0 n, gcpy (gL (gnew G 120 (zcap n))) pe (gsz G) 0 0 n, gcpy (gR (gnew G 120 (zcap n))) pe (gsz G) 0 0 n) := by
    have z0 : ¬ (0 : Int32) < 0 := by decide
    have c0 : (0 : Int32).toNatClampNeg = 0 := rfl
    have cn : (Int32.ofNat n).toNatClampNeg = n := zi_cl (by omega)
    unfold gcopy
    rw [Option.bind_some, Option.bind_some, if_pos]
    · rw [c0, cn]
    · rw [c0, cn]
      refine ⟨hBz, ?_, ?_, z0, z0, zi_neg (by omega), ?_, ?_, fun k hk => ?_⟩
      · exact Or.inr (by rw [zq_clN, if_neg (by omega)]; exact a2)
      · rw [zq_clN, if_pos rfl, zq_clN, if_neg (by omega), a2]
      · rw [eN]
        omega
      · rw [zq_lnN, if_pos rfl]
        omega
      · unfold gfit
        rw [zq_clN, if_neg (show ¬ pe = gsz G by omega), a2, if_neg (by decide), zq_RN, if_neg (by omega), Nat.zero_add]
        cases e : gR G pe k with
        | none => rfl
        | some b =>
          obtain ⟨w1, w2⟩ := hf k hk b e
          show gasg 120 (gcl (gnew G 120 (zcap n)) b) = true
          rw [zq_clN, if_neg (by omega)]
          exact w2
  rw [hcp, Option.bind_some]
  simp only [not_true_eq_false, ↓reduceIte, Option.bind_some]
  have kn : gcl (gnew G 120 (zcap n)) pl = 17 := by
    rw [zq_clN, if_neg (by omega)]
    exact a1
  have kk2 : ∀ a b c, (17 : Nat) ≤ gcl (gsz (gnew G 120 (zcap n)), gsl (gnew G 120 (zcap n)), gcl (gnew G 120 (zcap n)), gln (gnew G 120 (zcap n)), a, b, c) pl ∧ gcl (gsz (gnew G 120 (zcap n)), gsl (gnew G 120 (zcap n)), gcl (gnew G 120 (zcap n)), gln (gnew G 120 (zcap n)), a, b, c) pl ≤ 17 := fun a b c => by
    show 17 ≤ gcl (gnew G 120 (zcap n)) pl ∧ gcl (gnew G 120 (zcap n)) pl ≤ 17
    omega
  rw [zp_pR (kk2 _ _ _) hB]
  rfl
theorem zgrow_ok (h : zAL G pl pe n) (h1 : pl < gsz G) (h2 : pe < gsz G) (hn : n = gln G pe) (hc : n < 1000) : zAL (zgrow G pl pe n) pl (gsz G) n ∧ gsz (zgrow G pl pe n) = gsz G + 1 ∧ gsl (zgrow G pl pe n) = gsl G + zcap n ∧ gln (zgrow G pl pe n) (gsz G) = zcap n ∧ (∀ i, i < n → gR (zgrow G pl pe n) (gsz G) i = gR G pe i) ∧
    zFn (fun a => a = pl) G (zgrow G pl pe n) ∧ (∀ j, gI (zgrow G pl pe n) pl j = gI G pl j) ∧ gcl (zgrow G pl pe n) (gsz G) = 120 := by
  obtain ⟨a1, a2, a3, a4, a5, a6⟩ := h
  have hz : zcap n < 2000 := by unfold zcap; split <;> omega
  have hg := zcap_gt n
  have eC : ∀ a, gcl (zgrow G pl pe n) a = if a = gsz G then 120 else gcl G a := fun _ => rfl
  have eL : ∀ a, gln (zgrow G pl pe n) a = if a = gsz G then zcap n else gln G a := fun _ => rfl
  have eI : ∀ a, a ≠ gsz G → gI (zgrow G pl pe n) a = gI G a := fun a ha => by
    funext j
    show gcpy (gI (gnew G 120 (zcap n))) pe (gsz G) 0 0 n a j = _
    unfold gcpy
    rw [if_neg (fun q => ha q.1), zq_IN, if_neg ha]
  have eR : ∀ a j, gR (zgrow G pl pe n) a j = if a = pl ∧ j = 1 then some (gsz G) else if a = gsz G ∧ j < n then gR G pe j else if a = gsz G then none else gR G a j := fun a j => by
    show (if a = pl ∧ j = 1 then some (gsz G) else gcpy (gR (gnew G 120 (zcap n))) pe (gsz G) 0 0 n a j) = _
    by_cases c : a = pl ∧ j = 1
    · rw [if_pos c, if_pos c]
    · rw [if_neg c, if_neg c]
      unfold gcpy
      by_cases c2 : a = gsz G ∧ j < n
      · rw [if_pos (by omega), if_pos c2, zq_RN, if_neg (by omega), Nat.zero_add, Nat.sub_zero]
      · rw [if_neg (by omega), if_neg c2, zq_RN]
        by_cases c3 : a = gsz G
        · rw [if_pos c3, if_pos c3]
        · rw [if_neg c3, if_neg c3]
  refine ⟨⟨?_, ?_, ?_, ?_, ?_, ?_⟩, rfl, rfl, ?_, fun i hi => ?_, ⟨Nat.le_succ _, fun a ha => ⟨?_, ?_, fun q => ⟨?_, ?_⟩⟩⟩, fun j => ?_, ?_⟩
  · rw [eC, if_neg (by omega), a1]
  · rw [eC, if_pos rfl]
  · rw [eR, if_pos ⟨rfl, rfl⟩]
  · rw [eI _ (by omega), a4]
  · rw [eL, if_pos rfl]
    omega
  · rw [eL, if_pos rfl]
    omega
  · rw [eL, if_pos rfl]
  · rw [eR, if_neg (by omega), if_pos ⟨rfl, hi⟩]
  · rw [eC, if_neg (by omega)]
  · rw [eL, if_neg (by omega)]
  · rw [eI _ (by omega)]
  · funext j
    rw [eR, if_neg (fun w => q w.1), if_neg (by omega), if_neg (by omega)]
  · rw [eI _ (by omega)]
  · rw [eC, if_pos rfl]
/-- a list that had room made for one more: its array, old or new -/
def zroom (G : g_G) (pl pe n : Nat) : g_G × Nat := if n = gln G pe then (zgrow G pl pe n, gsz G) else (G, pe)
theorem zroom_ok (h : zAL G pl pe n) (h1 : pl < gsz G) (h2 : pe < gsz G) (hc : n < 1000) (h0 : 2 ≤ gln G pe) (hf : zfit G pe n) : zAL (zroom G pl pe n).1 pl (zroom G pl pe n).2 n ∧ n < gln (zroom G pl pe n).1 (zroom G pl pe n).2 ∧ (∀ i, i < n → gR (zroom G pl pe n).1 (zroom G pl pe n).2 i = gR G pe i) ∧
    zFn (fun a => a = pl) G (zroom G pl pe n).1 ∧ (∀ j, gI (zroom G pl pe n).1 pl j = gI G pl j) ∧ gsl (zroom G pl pe n).1 + 4 * gln G pe ≤ gsl G + 4 * gln (zroom G pl pe n).1 (zroom G pl pe n).2 ∧ gsz (zroom G pl pe n).1 + gln G pe ≤ gsz G + gln (zroom G pl pe n).1 (zroom G pl pe n).2 ∧
    ((zroom G pl pe n).2 = pe ∨ (zroom G pl pe n).2 = gsz G) ∧ (zroom G pl pe n).2 < gsz (zroom G pl pe n).1 ∧ gln G pe ≤ gln (zroom G pl pe n).1 (zroom G pl pe n).2 ∧ zfit (zroom G pl pe n).1 (zroom G pl pe n).2 n ∧ (gln (zroom G pl pe n).1 (zroom G pl pe n).2 = gln G pe ∨ gln (zroom G pl pe n).1 (zroom G pl pe n).2 = zcap n) := by
  unfold zroom
  by_cases c : n = gln G pe
  · rw [if_pos c]
    have hg := zcap_gt n
    have h4 := zcap_4 (c := n) (by omega)
    have hz : zcap n < 2000 := by unfold zcap; split <;> omega
    obtain ⟨g1, g2, g3, g4, g5, g6, g7, g8⟩ := zgrow_ok h h1 h2 c hc
    refine ⟨g1, by show n < gln (zgrow G pl pe n) (gsz G); omega, g5, g6, g7, by show gsl (zgrow G pl pe n) + _ ≤ _ + 4 * gln (zgrow G pl pe n) (gsz G); omega, by show gsz (zgrow G pl pe n) + _ ≤ _ + gln (zgrow G pl pe n) (gsz G); omega, Or.inr rfl, by show gsz G < gsz (zgrow G pl pe n); omega, by show gln G pe ≤ gln (zgrow G pl pe n) (gsz G); omega, fun i hi b hb => ?_, Or.inr g4⟩
    have hb : gR (zgrow G pl pe n) (gsz G) i = some b := hb
    rw [g5 i hi] at hb
    obtain ⟨w1, w2⟩ := hf i hi b hb
    refine ⟨by show b < gsz (zgrow G pl pe n); omega, ?_⟩
    show gasg 120 (gcl (zgrow G pl pe n) b) = true
    rw [g6.cl w1]
    exact w2
  · rw [if_neg c]
    have h5 := h.2.2.2.2.1
    have h6 := h.2.2.2.2.2
    exact ⟨h, by show n < gln G pe; omega, fun _ _ => rfl, zFn.refl, fun _ => rfl, Nat.le_refl _, Nat.le_refl _, Or.inl rfl, h2, Nat.le_refl _, hf, Or.inl rfl⟩
theorem gasg_r {G : g_G} {v : Option Nat} (h : ∀ b, v = some b → gasg 120 (gcl G b) = true) : v.all (fun b => gasg 120 (gcl G b)) = true := by
  cases v with
  | none => rfl
  | some b => exact h b rfl
/-- something is laid behind a list -/
def zapp (G : g_G) (pl pe n : Nat) (v : Option Nat) : g_G := gsI (gsR (zroom (gsI G pl 0 (gI G pl 0 + 1)) pl pe n).1 (zroom (gsI G pl 0 (gI G pl 0 + 1)) pl pe n).2 n v) pl 2 (Int32.ofNat (n + 1))
theorem zc_add2 {v : Option Nat} (h : zAL G pl pe n) (h1 : pl < gsz G) (h2 : pe < gsz G) (h0 : 2 ≤ gln G pe) (hc : n < 1000) (hB : gB E ≤ pl) (hBe : gB E ≤ pe) (hBz : gB E ≤ gsz G) (hf : zfit G pe n) (hm : gsz G + 1 ≤ gMc E) (hs : gsl G + zcap n ≤ gMs E) (hv : ∀ b, v = some b → b < gsz G ∧ gasg 120 (gcl G b) = true) :
    ∃ G1 pe1, fJ2_add_2 E pl v G = some (1, G1) ∧ zAL G1 pl pe1 (n + 1) ∧ (∀ i, i < n → gR G1 pe1 i = gR G pe i) ∧ gR G1 pe1 n = v ∧ zFn (fun a => a = pl ∨ a = pe) G G1 ∧
      gsl G1 + 4 * gln G pe ≤ gsl G + 4 * gln G1 pe1 ∧ gsz G1 + gln G pe ≤ gsz G + gln G1 pe1 ∧ (pe1 = pe ∨ pe1 = gsz G) ∧ pe1 < gsz G1 ∧ gln G pe ≤ gln G1 pe1 ∧ zfit G1 pe1 (n + 1) ∧ gB E ≤ pe1 := by
  have hne : pe ≠ pl := fun q => by have := h.1; have := h.2.1; rw [q] at this; omega
  have ha : zAL (gsI G pl 0 (gI G pl 0 + 1)) pl pe n := by
    obtain ⟨a1, a2, a3, a4, a5, a6⟩ := h
    exact ⟨a1, a2, a3, by rw [zq_II, if_neg (by omega)]; exact a4, a5, a6⟩
  obtain ⟨r1, r2, r4, r5, r6, r7, r8, r9, r10, r11, r12, r13⟩ := zroom_ok ha h1 h2 hc h0 hf
  obtain ⟨a1, a2, a3, a4, a5, a6⟩ := h
  have kk : (17 : Nat) ≤ gcl G pl ∧ gcl G pl ≤ 17 := by omega
  have l120 : 100 ≤ gcl G pe := by omega
  have e2 : gI (gsI G pl 0 (gI G pl 0 + 1)) pl 2 = Int32.ofNat n := ha.2.2.2.1
  have kk' : (17 : Nat) ≤ gcl (gsI G pl 0 (gI G pl 0 + 1)) pl ∧ gcl (gsI G pl 0 (gI G pl 0 + 1)) pl ≤ 17 := kk
  have a1' : gcl (gsI G pl 0 (gI G pl 0 + 1)) pl = 17 := a1
  have l120' : 100 ≤ gcl (gsI G pl 0 (gI G pl 0 + 1)) pe := l120
  have a3' : gR (gsI G pl 0 (gI G pl 0 + 1)) pl 1 = some pe := a3
  have eln : gln (gsI G pl 0 (gI G pl 0 + 1)) pe = gln G pe := rfl
  refine ⟨zapp G pl pe n v, (zroom (gsI G pl 0 (gI G pl 0 + 1)) pl pe n).2, ?_⟩
  unfold zapp
  generalize hG0 : gsI G pl 0 (gI G pl 0 + 1) = G0 at *
  have hBr : gB E ≤ (zroom G0 pl pe n).2 := by
    rcases r9 with e | e <;> rw [e]
    · exact hBe
    · subst hG0
      exact hBz
  have hsz0 : gsz G0 = gsz G := by subst hG0; rfl
  have hcl0 : gcl G0 = gcl G := by subst hG0; rfl
  have hln0 : gln G0 = gln G := by subst hG0; rfl
  have hsl0 : gsl G0 = gsl G := by subst hG0; rfl
  have f0 : zFn (fun a => a = pl) G G0 := by subst hG0; exact (zFr.wI (S := fun a => a = pl) rfl).fn
  have hR0 : gR G0 = gR G := by subst hG0; rfl
  generalize hG2 : (zroom G0 pl pe n).1 = G2 at *
  generalize hp2 : (zroom G0 pl pe n).2 = pe2 at *
  have k2 : (17 : Nat) ≤ gcl G2 pl ∧ gcl G2 pl ≤ 17 := by have := r1.1; omega
  have hne2 : pe2 ≠ pl := fun q => by have := r1.1; have := r1.2.1; rw [q] at this; omega
  have hv2 : v.all (fun b => gasg 120 (gcl G2 b)) = true := gasg_r fun b hb => by
    obtain ⟨w1, w2⟩ := hv b hb
    rw [r5.cl (by omega), hcl0]
    exact w2
  have tail : ∀ z : Option Nat × g_G, z = (some pe2, G2) → fJ2_add_3_b11 E pl v z.1 (Int32.ofNat n) z.2 = some (gsI (gsR G2 pe2 n v) pl 2 (Int32.ofNat (n + 1))) := fun z hz => by
    subst hz
    have k3 : (17 : Nat) ≤ gcl (gsR G2 pe2 n v) pl ∧ gcl (gsR G2 pe2 n v) pl ≤ 17 := k2
    simp only [fJ2_add_3_b11, zp_saR hBr r1.2.1 r2 (show n < 2147483648 by omega) hv2, zp_pI k3 hB, zi_inc]
  refine ⟨?_, ⟨r1.1, r1.2.1, ?_, ?_, ?_, r1.2.2.2.2.2⟩, fun i hi => ?_, ?_, ?_, ?_, ?_, ?_, ?_, ?_, ?_, hBr⟩
  · simp only [fJ2_add_2, zp_rI kk, zp_pI kk hB, hG0, zp_rR kk', a3', zp_rI kk', e2, zp_chk a1', fJ2_add_3, zp_len l120']
    by_cases c : n = gln G0 pe
    · rw [if_neg (fun q => q (by rw [← c]))]
      have gg := zc_grow (E := E) (G := G0) (pl := pl) (pe := pe) (n := n) ha (by omega) (by omega) c (by omega) hc hB (by omega) (fun i hi b hb => by rw [hR0] at hb; have := hf i hi b hb; rw [hsz0, hcl0]; exact this) (by omega) (by omega)
      have e1 : (some (gsz G0), zgrow G0 pl pe n) = (some pe2, G2) := by
        unfold zroom at hG2 hp2
        rw [if_pos c] at hG2 hp2
        rw [← hG2, ← hp2]
      have tt := tail _ e1
      simp only [gg, Option.bind_some, true_or, or_true, ↓reduceIte]
      rw [tt]
      rfl
    · have nn : ¬ Int32.ofNat n = Int32.ofNat (gln G0 pe) := zi_ne (by omega) (by rw [hln0]; omega) c
      rw [if_pos nn]
      have e1 : (some pe, G0) = (some pe2, G2) := by
        unfold zroom at hG2 hp2
        rw [if_neg c] at hG2 hp2
        rw [← hG2, ← hp2]
      have tt := tail _ e1
      have tt' : fJ2_add_3_b11 E pl v (some pe) (Int32.ofNat n) G0 = _ := tt
      rw [tt', Option.bind_some]
      rfl
  · show gR (gsR G2 pe2 n v) pl 1 = _
    rw [zq_RR, if_neg (by omega)]
    exact r1.2.2.1
  · rw [zq_II, if_pos ⟨rfl, rfl⟩]
  · show n + 1 ≤ gln G2 pe2
    omega
  · show gR (gsR G2 pe2 n v) pe2 i = _
    rw [zq_RR, if_neg (by omega), r4 i hi, hR0]
  · show gR (gsR G2 pe2 n v) pe2 n = _
    rw [zq_RR, if_pos ⟨rfl, rfl⟩]
  · have f2 : zFn (fun a => a = pl ∨ a = pe2) G2 (gsI (gsR G2 pe2 n v) pl 2 (Int32.ofNat (n + 1))) := ((zFr.wR (Or.inr rfl)).wI2 (Or.inl rfl)).fn
    refine ((f0.trans r5 (fun a _ q => q)).mono (fun a _ q => Or.inl q)).trans f2 fun a ha q => ?_
    rcases q with q | q
    · exact Or.inl q
    · rcases r9 with e | e
      · exact Or.inr (by rw [q, e])
      · omega
  · show gsl G2 + _ ≤ _ + 4 * gln G2 pe2
    rw [hln0, hsl0] at r7
    exact r7
  · show gsz G2 + _ ≤ _ + gln G2 pe2
    rw [hln0, hsz0] at r8
    exact r8
  · rw [← hsz0]
    exact r9
  · exact r10
  · rw [← hln0]
    exact r11
  · intro i hi b hb
    have hb : gR (gsR G2 pe2 n v) pe2 i = some b := hb
    rw [zq_RR] at hb
    by_cases c : i = n
    · rw [if_pos ⟨rfl, c⟩] at hb
      obtain ⟨w1, w2⟩ := hv b hb
      refine ⟨by show b < gsz G2; have := r5.1; omega, ?_⟩
      show gasg 120 (gcl G2 b) = true
      rw [r5.cl (by omega), hcl0]
      exact w2
    · rw [if_neg (fun q => c q.2)] at hb
      exact r12 i (by omega) b hb
end Z18
