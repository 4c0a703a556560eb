/-! THE PLAIN LAW, 20: what stands behind something new -/
set_option maxRecDepth 100000
section Z20
variable {P : zPr} {A : Nat → Nat} {E : g_E} {G : g_G} {l n : Nat} {S : zS} {T : Nat → Int32} {R : Nat → Prop} {x tx : Nat} {o : Nat → Bool} {G1 : g_G} {X : Nat → Prop}
theorem zLS.fn (h : zLS G l) (f : zFn X G G1) (hl : l + 10 < gsz G) (hX : ¬ X l) : zLS G1 l := by
  unfold zLS at h ⊢
  rw [f.cl (show l < gsz G by omega), f.R (show l < gsz G by omega) hX]
  have e : ∀ k, k ≤ 10 → gcl G1 (l + k) = gcl G (l + k) ∧ gln G1 (l + k) = gln G (l + k) := fun k hk => ⟨f.cl (by omega), f.ln (by omega)⟩
  rw [(e 1 (by omega)).1, (e 1 (by omega)).2, (e 2 (by omega)).1, (e 2 (by omega)).2, (e 3 (by omega)).1, (e 3 (by omega)).2, (e 4 (by omega)).1, (e 4 (by omega)).2, (e 5 (by omega)).1, (e 5 (by omega)).2, (e 6 (by omega)).1, (e 6 (by omega)).2, (e 7 (by omega)).1, (e 7 (by omega)).2, (e 8 (by omega)).1, (e 8 (by omega)).2, (e 9 (by omega)).1, (e 9 (by omega)).2, (e 10 (by omega)).1, (e 10 (by omega)).2]
  exact h
theorem zXS.fn (h : zXS G x) (f : zFn X G G1) (hl : x + 2253 ≤ gsz G) (hX : ¬ X x) : zXS G1 x := by
  unfold zXS at h ⊢
  rw [f.cl (show x < gsz G by omega), f.R (show x < gsz G by omega) hX]
  have e : ∀ k, k ≤ 40 → gcl G1 (x + k) = gcl G (x + k) ∧ gln G1 (x + k) = gln G (x + k) := fun k hk => ⟨f.cl (by omega), f.ln (by omega)⟩
  rw [(e 4 (by omega)).1, (e 4 (by omega)).2, (e 5 (by omega)).1, (e 5 (by omega)).2, (e 6 (by omega)).1, (e 6 (by omega)).2, (e 7 (by omega)).1, (e 7 (by omega)).2, (e 8 (by omega)).1, (e 8 (by omega)).2, (e 9 (by omega)).1, (e 9 (by omega)).2, (e 12 (by omega)).1, (e 12 (by omega)).2, (e 13 (by omega)).1, (e 13 (by omega)).2, (e 25 (by omega)).1, (e 25 (by omega)).2, (e 26 (by omega)).1, (e 26 (by omega)).2, (e 27 (by omega)).1, (e 27 (by omega)).2, (e 28 (by omega)).1, (e 28 (by omega)).2, (e 29 (by omega)).1, (e 29 (by omega)).2, (e 30 (by omega)).1, (e 30 (by omega)).2, (e 10 (by omega)).1]
  exact h
theorem zAL.fn {pl pe m : Nat} (h : zAL G pl pe m) (f : zFn X G G1) (h1 : pl < gsz G) (h2 : pe < gsz G) (hX : ¬ X pl) : zAL G1 pl pe m := by
  unfold zAL at h ⊢
  rw [f.cl h1, f.cl h2, f.ln h2, f.I h1 hX, f.R h1 hX]
  exact h
theorem zVX.fn (f : zFn X G G1) (hR : ∀ a, R a → a < gsz G ∧ ¬ X a) : ∀ {d a : Nat} {ev : zEv}, zVX R G d a ev → zVX R G1 d a ev := by
  have hl : ∀ {a : Nat} {ev : zEv}, zLeaf R G a ev → zLeaf R G1 a ev := fun {a ev} h => by
    unfold zLeaf at h ⊢
    rw [f.cl (hR a h.1).1, f.I (hR a h.1).1 (hR a h.1).2]
    exact h
  intro d
  induction d with
  | zero => exact fun {a ev} h => hl h
  | succ d ih =>
    intro a ev h
    rcases h with h | ⟨h1, h2, pl, pe, sl, se, np, evs, cs, ⟨r1, r2, r3, r4⟩, h3, h4, h5, h6, h7, h8, h9⟩
    · exact Or.inl (hl h)
    · have q := hR a h1
      refine Or.inr ⟨h1, by rw [f.cl q.1, h2], pl, pe, sl, se, np, evs, cs, ⟨r1, r2, r3, r4⟩, by rw [f.R q.1 q.2, h3], by rw [f.R q.1 q.2, h4], h5.fn f (hR _ r1).1 (hR _ r2).1 (hR _ r1).2, h6.fn f (hR _ r3).1 (hR _ r4).1 (hR _ r3).2, fun i hi => ?_, fun i hi => ?_, h9⟩
      · obtain ⟨b, b1, b2, b3⟩ := h7 i hi
        have hb : R b := by
          cases d with
          | zero => exact b2.1
          | succ d => rcases b2 with b2 | b2 <;> exact b2.1
        exact ⟨b, by rw [f.R (hR _ r2).1 (hR _ r2).2, b1], ih b2, by rw [f.cl (hR _ hb).1]; exact b3⟩
      · obtain ⟨b, b1, b2, b3, b4⟩ := h8 i hi
        exact ⟨b, by rw [f.R (hR _ r4).1 (hR _ r4).2, b1], b2, by rw [f.cl (hR _ b2).1, b3], by rw [f.I (hR _ b2).1 (hR _ b2).2]; exact b4⟩
theorem zCX.fn (h : zCX R P A G) (f : zFn X G G1) (hR : ∀ a, R a → a < gsz G ∧ ¬ X a) : zCX R P A G1 := by
  have key : ∀ s, s < zN P → gcl G1 (A s) = gcl G (A s) ∧ gI G1 (A s) = gI G (A s) ∧ gR G1 (A s) = gR G (A s) := fun s hs => by
    have q := hR _ (h.2 s hs).1
    exact ⟨f.cl q.1, f.I q.1 q.2, f.R q.1 q.2⟩
  refine ⟨⟨h.1.1, h.1.2.1, fun s hs => ?_⟩, fun s hs => ?_⟩
  · obtain ⟨k1, k2, k3⟩ := key s hs
    rw [k1, k2, k3]
    exact h.1.2.2 s hs
  · obtain ⟨k1, k2, k3⟩ := key s hs
    obtain ⟨h0, h1, h2, h3, h4, h5, h6, h7, h8, h9⟩ := h.2 s hs
    unfold zStp
    rw [k1, k2, k3]
    refine ⟨h0, fun k => ?_, fun k => ?_, fun k => ?_, h4, h5, fun k => ?_, fun k => ?_, fun k => ?_, fun k => ?_⟩
    · obtain ⟨q1, q2, m, t, w, q3, q4, q5, q6, q7, q8⟩ := h1 k
      exact ⟨q1, q2, m, t, w, q3, q4, q5, q6.fn f hR, q7.fn f hR, q8.fn f hR⟩
    · obtain ⟨q1, q2, q3, m, q4, q5⟩ := h2 k
      exact ⟨q1, q2, q3, m, q4, q5.fn f hR⟩
    · obtain ⟨t, q1, q2⟩ := h3 k
      exact ⟨t, q1, q2.fn f hR⟩
    · obtain ⟨q0, t, q1, q2⟩ := h6 k
      exact ⟨q0, t, q1, q2.fn f hR⟩
    · obtain ⟨q0, q3, t, q1, q2⟩ := h7 k
      exact ⟨q0, q3, t, q1, q2.fn f hR⟩
    · obtain ⟨q0, t, q1, q2⟩ := h8 k
      exact ⟨q0, t, q1, q2.fn f hR⟩
    · obtain ⟨q0, q3, q4, t, q1, q2⟩ := h9 k
      exact ⟨q0, q3, q4, t, q1, q2.fn f hR⟩
theorem zCt.fn (h : zCt R P A E G x o) (f : zFn X G G1) (hz : x + 2253 ≤ gsz G) (hR : ∀ a, R a → a < gsz G ∧ ¬ X a) (hx : ¬ X x) (h4 : ¬ X (x + 4)) : zCt R P A E G1 x o :=
  ⟨h.1.fn f hz hx, h.2.1.fn f hR, h.2.2.1, h.2.2.2.1, fun s hs => by rw [f.I (by omega) h4]; exact h.2.2.2.2 s hs⟩
theorem zTx.fn (h : zTx R P A G x tx) (f : zFn X G G1) (hz : x + 2253 ≤ gsz G) (hR : ∀ a, R a → a < gsz G ∧ ¬ X a) (hx : ¬ X x) : zTx R P A G1 x tx := by
  obtain ⟨h1, h2, h3, h4⟩ := h
  have q := hR _ h1
  exact ⟨h1, by rw [f.R (by omega) hx, h2], by rw [f.cl q.1, h3], by rw [f.R q.1 q.2, h4]⟩
theorem zCL.fn (hC : zCL P A G l n S T) (f : zFn X G G1) (hl : l + 10 < gsz G) (hX : ∀ a, zIn l a → ¬ X a) : zCL P A G1 l n S T := by
  have e : ∀ k, k ≤ 10 → gI G1 (l + k) = gI G (l + k) ∧ gR G1 (l + k) = gR G (l + k) := fun k hk => ⟨f.I (by omega) (hX _ ⟨by omega, by omega⟩), f.R (by omega) (hX _ ⟨by omega, by omega⟩)⟩
  refine ⟨hC.1.fn f hl (hX _ ⟨by omega, by omega⟩), hC.n8, hC.m3, ?_, ?_, fun h hh => (hC.hd hh).fr fun a a1 a2 => ?_, fun k hk => ?_, fun k hk => ?_⟩
  · rw [← hC.I0]; exact congrFun (e 0 (by omega)).1 0
  · rw [← hC.I1]; exact congrFun (e 0 (by omega)).1 1
  · obtain ⟨k, rfl⟩ : ∃ k, a = l + k := ⟨a - l, by omega⟩
    exact e k (by omega)
  · obtain ⟨h1, h2, h3, h4, h5, h6⟩ := hC.wd hk
    exact ⟨h1, h2, by rw [(e 6 (by omega)).1, h3], by rw [(e 7 (by omega)).1, h4], by rw [(e 8 (by omega)).1, h5], by rw [(e 9 (by omega)).1, h6]⟩
  · rw [(e 10 (by omega)).1, hC.th hk]
theorem zPool.fn (h : zPool G x) (f : zFn X G G1) (hz : x + 2253 ≤ gsz G) (hX : ∀ a, X a → ¬ (x + 9 ≤ a ∧ a < x + 2253 ∧ (a = x + 9 ∨ x + 42 ≤ a))) : zPool G1 x := fun i hi =>
  ⟨by rw [f.R (by omega) (fun q => hX _ q (by omega))]; exact (h i hi).1, (h i hi).2.fn f (by unfold zpl; omega) (fun q => hX _ q (by unfold zpl; omega))⟩
theorem zSt.fn {Y : zX} (h : zSt P A G x n Y) (f : zFn X G G1) (hz : x + 2253 ≤ gsz G) (hc : xn Y ≤ 200) (hX : ∀ a, X a → ¬ (x + 42 ≤ a ∧ a < x + 2253)) : zSt P A G1 x n Y := fun i hi => by
  obtain ⟨⟨T1, w1⟩, w2, w3⟩ := h i hi
  refine ⟨⟨T1, w1.fn f (by unfold zpl; omega) (fun a ha q => hX a q (by unfold zIn zpl at *; omega))⟩, ?_, w3⟩
  rw [f.I (by unfold zpl; omega) (fun q => hX _ q (by unfold zpl; omega)), w2]
theorem zCd.fn {cd : Nat → Nat → Int32} (h : zCd G x cd) (f : zFn X G G1) (hz : x + 2253 ≤ gsz G) (hX : ¬ X (x + 12)) : zCd G1 x cd := fun s j hs hj => by
  rw [f.I (by omega) hX]
  exact h s j hs hj
end Z20
/-! how a state ends -/
abbrev zE : Type := Int32 × (Nat → Int32) × Int32 × Int32
def ekd (e : zE) : Int32 := e.1
def etd (e : zE) : Nat → Int32 := e.2.1
def ewd (e : zE) : Int32 := e.2.2.1
def ebt (e : zE) : Int32 := e.2.2.2
/-- by the first hand that told another thing -/
def ztl (a b : Nat → Int32) : Nat → Nat → Option Bool
  | 0, _ => none
  | d + 1, h => if a h = b h then ztl a b d (h + 1) else some (decide (a h < b h))
def zahead (n : Nat) (e f : zE) : Bool :=
  if ekd e = ekd f then (match ztl (etd e) (etd f) n 0 with
    | some b => b
    | none => if ewd e = ewd f then decide (ebt e < ebt f) else decide (ewd e < ewd f))
  else decide (ekd e < ekd f)
def zelike (n : Nat) (e f : zE) : Bool := !zahead n e f && !zahead n f e
/-- the endings so far, in their order -/
abbrev zL : Type := Nat × (Nat → zE)
def zepos (n : Nat) (f : Nat → zE) (e : zE) : Nat → Nat
  | 0 => 0
  | m + 1 => if zahead n e (f m) = true then zepos n f e m else m + 1
def zeins (n : Nat) (L : zL) (e : zE) : zL :=
  if 0 < zepos n L.2 e L.1 ∧ zelike n (L.2 (zepos n L.2 e L.1 - 1)) e = true then L else (L.1 + 1, zins L.2 (zepos n L.2 e L.1) e)
def zend (P : zPr) (n : Nat) (S : zS) : zE := (zkind P n S, fun h => htd (sh S h), Int32.ofNat (sm S), zlive P n S)
def zEO (G : g_G) (lo b n : Nat) (e : zE) : Prop := gcl G b = 7 ∧ gI G b 0 = ekd e ∧ gI G b 1 = ewd e ∧ gI G b 2 = ebt e ∧ ∃ t, gR G b 3 = some t ∧ gcl G t = 100 ∧ gln G t = 8 ∧ (∀ h, h < n → gI G t h = etd e h) ∧ (lo ≤ b ∧ lo ≤ t) ∧ b < gsz G ∧ t < gsz G
section Z20b
variable {P : zPr} {A : Nat → Nat} {E : g_E} {G : g_G} {l n : Nat} {S : zS} {T : Nat → Int32}
theorem ztl_succ (a b : Nat → Int32) (d h : Nat) : ztl a b (d + 1) h = if a h = b h then ztl a b d (h + 1) else some (decide (a h < b h)) := rfl
theorem zc_ahead_b30 {lo a b : Nat} {e f : zE} (hn : n ≤ 8) (ha : zEO G lo a n e) (hb : zEO G lo b n f) : ∀ d F i, n - i = d → i ≤ n → d < F → fX18_isAhead_b30 E F a (some b) (Int32.ofNat n) (Int32.ofNat i) G = some (zb (match ztl (etd e) (etd f) d i with
    | some b => b
    | none => if ewd e = ewd f then decide (ebt e < ebt f) else decide (ewd e < ewd f)), G)
  | d, F, i, hd, hi, hF => by
    obtain ⟨F, rfl⟩ := z_suc hF
    have ha' := ha
    have hb' := hb
    obtain ⟨a1, a2, a3, a4, ta, a5, a6, a7, a8, -⟩ := ha
    obtain ⟨b1, b2, b3, b4, tb, b5, b6, b7, b8, -⟩ := hb
    have ka : (7 : Nat) ≤ gcl G a ∧ gcl G a ≤ 7 := by omega
    have kb : (7 : Nat) ≤ gcl G b ∧ gcl G b ≤ 7 := by omega
    have lt : ∀ u v : Int32, (if v ≤ u then (some (0, G) : Option (Int32 × g_G)) else some (1, G)) = some (zb (decide (u < v)), G) := fun u v => by
      by_cases c : u < v
      · rw [if_neg (by rw [Int32.not_le]; exact c), decide_eq_true c]
        rfl
      · rw [if_pos (by rw [← Int32.not_lt]; exact c), decide_eq_false c]
        rfl
    rw [fX18_isAhead_b30]
    cases d with
    | zero =>
      obtain rfl : i = n := by omega
      rw [if_pos (zi_le (by omega) (by omega))]
      simp only [zp_rI ka, zp_rI kb, a3, a4, b3, b4, true_or, or_true, ↓reduceIte, lt]
      show _ = some (zb (if ewd e = ewd f then decide (ebt e < ebt f) else decide (ewd e < ewd f)), G)
      by_cases c : ewd e = ewd f
      · rw [if_pos c, if_pos c]
      · rw [if_neg c, if_neg c]
    | succ d =>
      have i8 : i < gln G ta := by omega
      have i8' : i < gln G tb := by omega
      rw [if_neg (zi_nle (by omega) (by omega)), ztl_succ]
      simp only [zp_rR ka, zp_rR kb, a5, b5, zp_aI a6 i8 (show i < 2147483648 by omega), zp_aI b6 i8' (show i < 2147483648 by omega), a8 i (by omega), b8 i (by omega), true_or, or_true, ↓reduceIte, zi_inc, lt]
      by_cases c : etd e i = etd f i
      · rw [if_pos c, if_pos c]
        exact zc_ahead_b30 hn ha' hb' d F (i + 1) (by omega) (by omega) (by omega)
      · rw [if_neg c, if_neg c]
theorem zc_ahead {lo a b : Nat} {e f : zE} (hn : n ≤ 8) (ha : zEO G lo a n e) (hb : zEO G lo b n f) : fX18_isAhead E a (some b) (Int32.ofNat n) G = some (zb (zahead n e f), G) := by
  have ka : (7 : Nat) ≤ gcl G a ∧ gcl G a ≤ 7 := by have := ha.1; omega
  have kb : (7 : Nat) ≤ gcl G b ∧ gcl G b ≤ 7 := by have := hb.1; omega
  have h30 := zc_ahead_b30 (E := E) hn ha hb n gFU 0 (by omega) (by omega) (z_F _ (by omega))
  have h30' : fX18_isAhead_b30 E gFU a (some b) (Int32.ofNat n) 0 G = _ := h30
  simp only [fX18_isAhead, zp_rI ka, zp_rI kb, ha.2.1, hb.2.1, true_or, or_true, ↓reduceIte]
  unfold zahead
  by_cases c : ekd e = ekd f
  · rw [if_pos c, if_pos c]
    exact h30'
  · rw [if_neg c, if_neg c]
    by_cases c2 : ekd e < ekd f
    · rw [if_neg (by rw [Int32.not_le]; exact c2), decide_eq_true c2]
      rfl
    · rw [if_pos (by rw [← Int32.not_lt]; exact c2), decide_eq_false c2]
      rfl
theorem zc_elike {lo a b : Nat} {e f : zE} (hn : n ≤ 8) (ha : zEO G lo a n e) (hb : zEO G lo b n f) : fX18_isLike E a (some b) (Int32.ofNat n) G = some (zb (zelike n e f), G) := by
  simp only [fX18_isLike, zp_chk ha.1, zp_chk hb.1, zc_ahead hn ha hb, zc_ahead hn hb ha, Option.bind_some, zb_n0, true_or, or_true, ↓reduceIte]
  unfold zelike
  cases zahead n e f <;> cases zahead n f e <;> rfl
theorem zEO.fn {G1 : g_G} {X : Nat → Prop} {lo b : Nat} {e : zE} (h : zEO G lo b n e) (f : zFn X G G1) (hX : ∀ a, X a → lo ≤ a → gcl G a = 120) : zEO G1 lo b n e := by
  obtain ⟨a1, a2, a3, a4, t, a5, a6, a7, a8, a9, hb, ht⟩ := h
  have nb : ¬ X b := fun q => by have := hX b q a9.1; omega
  have nt : ¬ X t := fun q => by have := hX t q a9.2; omega
  have := f.1
  exact ⟨by rw [f.cl hb, a1], by rw [f.I hb nb, a2], by rw [f.I hb nb, a3], by rw [f.I hb nb, a4], t, by rw [f.R hb nb, a5], by rw [f.cl ht, a6], by rw [f.ln ht, a7], fun h hh => by rw [f.I ht nt]; exact a8 h hh, a9, by omega, by omega⟩
end Z20b
