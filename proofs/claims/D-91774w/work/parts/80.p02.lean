/-! THE PLAIN LAW, 2: what both sides compute: texts, states, moves -/
set_option maxRecDepth 100000
/-- a sum: by the vars, the hand's number, how many hands, from whom it had its last word -/
abbrev zEv : Type := (Nat → Int32) → Int32 → Int32 → Int32 → Int32
/-- a text: how many steps; of each its kind, its sums, var, number, what comes behind, then, else (40: nothing) -/
abbrev zPr : Type := Nat × (Nat → Nat) × (Nat → Nat → zEv) × (Nat → Nat) × (Nat → Nat) × (Nat → Nat) × (Nat → Nat) × (Nat → Nat)
def zN (P : zPr) : Nat := P.1
def zkd (P : zPr) : Nat → Nat := P.2.1
def zex (P : zPr) : Nat → Nat → zEv := P.2.2.1
def zvr (P : zPr) : Nat → Nat := P.2.2.2.1
def zms (P : zPr) : Nat → Nat := P.2.2.2.2.1
def znx (P : zPr) : Nat → Nat := P.2.2.2.2.2.1
def zth (P : zPr) : Nat → Nat := P.2.2.2.2.2.2.1
def zot (P : zPr) : Nat → Nat := P.2.2.2.2.2.2.2
def zgt (P : zPr) (s t : Nat) : Prop := s < t ∧ (t < zN P ∨ t = 40)
def zOk (P : zPr) : Prop := zN P ≤ 40 ∧ ∀ s, s < zN P → zkd P s ≤ 10 ∧ zvr P s < 4 ∧ (1 ≤ zms P s ∧ zms P s ≤ 99) ∧ zgt P s (znx P s) ∧ (zkd P s = 10 → zgt P s (zth P s) ∧ zgt P s (zot P s))
/-- a hand: where it is (40: ended), whether it stopped, vars, from, told -/
abbrev zH : Type := Nat × Bool × (Nat → Int32) × Int32 × Int32
def hat (H : zH) : Nat := H.1
def hst (H : zH) : Bool := H.2.1
def hvr (H : zH) : Nat → Int32 := H.2.2.1
def hfr (H : zH) : Int32 := H.2.2.2.1
def htd (H : zH) : Int32 := H.2.2.2.2
/-- a word: between which, mark, value, length, whether it was begun -/
abbrev zW : Type := Nat × Int32 × Int32 × Nat × Bool
def wpr (w : zW) : Nat := w.1
def wmk (w : zW) : Int32 := w.2.1
def wvl (w : zW) : Int32 := w.2.2.1
def wln (w : zW) : Nat := w.2.2.2.1
def wbg (w : zW) : Bool := w.2.2.2.2
/-- a state: hands; how many words; words -/
abbrev zS : Type := (Nat → zH) × Nat × (Nat → zW)
def sh (S : zS) : Nat → zH := S.1
def sm (S : zS) : Nat := S.2.1
def sw (S : zS) : Nat → zW := S.2.2
def zev (P : zPr) (n h : Nat) (H : zH) (s k : Nat) : Int32 := zex P s k (hvr H) (Int32.ofNat h) (Int32.ofNat n) (hfr H)
def zisO (n h : Nat) (v : Int32) : Bool := decide (0 ≤ v) && decide (v < Int32.ofNat n) && !decide (v = Int32.ofNat h)
def zgo (P : zPr) (o : Nat → Bool) (n h : Nat) : Nat → Nat → zH → zH
  | 0, _, H => H
  | f + 1, s, H =>
    if zN P ≤ s then (40, hst H, hvr H, hfr H, htd H)
    else if o s = true then zgo P o n h f (znx P s) H
    else if zkd P s = 8 then zgo P o n h f (znx P s) (hat H, hst H, va_up (hvr H) (zvr P s) (zev P n h H s 0), hfr H, htd H)
    else if zkd P s = 9 then zgo P o n h f (znx P s) (hat H, hst H, hvr H, hfr H, 31 * htd H + zev P n h H s 0)
    else if zkd P s = 10 then zgo P o n h f (if zev P n h H s 0 = 0 then zot P s else zth P s) H
    else (s, decide (zkd P s ≤ 3) && !zisO n h (zev P n h H s 0), hvr H, hfr H, htd H)
def zgoes (P : zPr) (o : Nat → Bool) (n h s : Nat) (H : zH) : zH := zgo P o n h 41 s H
def zisAt (P : zPr) (H : zH) (k : Nat) : Bool := decide (hat H < zN P) && !hst H && decide (zkd P (hat H) = k)
/-! words -/
def zfirst (w : Nat → zW) (p : Nat) (mk : Int32) : Nat → Nat → Option Nat
  | 0, _ => none
  | d + 1, i => if wpr (w i) = p ∧ wmk (w i) = mk then some i else zfirst w p mk d (i + 1)
def zfnd (S : zS) (s t : Nat) (mk : Int32) : Option Nat := zfirst (sw S) (8 * s + t) mk (sm S) 0
def znum : Option Nat → Int32
  | none => -1
  | some i => Int32.ofNat i
def zsent (w : Nat → zW) (p : Nat) : Nat → Nat
  | 0 => 0
  | m + 1 => if wpr (w m) = p ∧ wbg (w m) = false then zsent w p m + 1 else zsent w p m
def zbit (k : Nat) : Int32 := 1 <<< (Int32.ofNat k &&& 31)
def zbgn (w : Nat → zW) (s : Nat) : Nat → Int32
  | 0 => 0
  | m + 1 => if wpr (w m) / 8 = s ∧ wbg (w m) = true then zbgn w s m ||| zbit (wpr (w m) % 8) else zbgn w s m
def zlpos (w : Nat → zW) (p : Nat) : Nat → Nat
  | 0 => 0
  | m + 1 => if wpr (w m) ≤ p then m + 1 else zlpos w p m
def zins {α : Type} (f : Nat → α) (k : Nat) (x : α) : Nat → α := fun j => if j < k then f j else if j = k then x else f (j - 1)
def zdel {α : Type} (f : Nat → α) (k : Nat) : Nat → α := fun j => if j < k then f j else f (j + 1)
def zlie (S : zS) (x : zW) : zS := (sh S, sm S + 1, zins (sw S) (zlpos (sw S) (wpr x) (sm S)) x)
def zout (S : zS) (k : Nat) : zS := (sh S, sm S - 1, zdel (sw S) k)
def zbits (f : Nat → Bool) : Nat → Int32
  | 0 => 0
  | n + 1 => if f n = true then zbits f n ||| zbit n else zbits f n
def zall (f : Nat → Bool) : Nat → Bool
  | 0 => true
  | n + 1 => zall f n && f n
/-- who has not ended, as bits; how it stands: 0 whole, 1 stopped, 2 locked -/
def zlive (P : zPr) (n : Nat) (S : zS) : Int32 := zbits (fun h => decide (hat (sh S h) < zN P)) n
def zkind (P : zPr) (n : Nat) (S : zS) : Int32 := if zlive P n S = 0 then 0 else if zall (fun h => !hst (sh S h)) n = true then 2 else 1
/-! moves -/
def zto (P : zPr) (n : Nat) (S : zS) (h : Nat) : Nat := (zev P n h (sh S h) (hat (sh S h)) 0).toNatClampNeg
def zmk (P : zPr) (n : Nat) (S : zS) (h : Nat) : Int32 := zev P n h (sh S h) (hat (sh S h)) 1
def zwd (P : zPr) (n : Nat) (S : zS) (h : Nat) : Int32 := zev P n h (sh S h) (hat (sh S h)) 2
def zK (P : zPr) (S : zS) (h : Nat) : Nat := zkd P (hat (sh S h))
def zmay (P : zPr) (n r : Nat) (S : zS) (h : Nat) : Bool := decide (zK P S h = 2) || (decide (zK P S h = 0) && decide (zsent (sw S) (8 * h + zto P n S h) (sm S) < r))
def zhov (P : zPr) (n : Nat) (S : zS) (h : Nat) : Bool :=
  (zisAt P (sh S (zto P n S h)) 3 && decide (zto P n S (zto P n S h) = h) || zisAt P (sh S (zto P n S h)) 4) && decide (zmk P n S (zto P n S h) = zmk P n S h) && (zfnd S h (zto P n S h) (zmk P n S h)).isNone
def zallAt (P : zPr) (n : Nat) (S : zS) (k : Nat) : Bool := zall (fun h => zisAt P (sh S h) k) n
def zcan (P : zPr) (n r : Nat) (S : zS) (h o : Nat) : Bool := decide (hat (sh S h) < zN P) && !hst (sh S h) &&
  (if zK P S h ≤ 2 then zmay P n r S h || zhov P n S h
   else if zK P S h = 3 then (zfnd S (zto P n S h) h (zmk P n S h)).isSome
   else if zK P S h = 4 then !decide (o = h) && (zfnd S o h (zmk P n S h)).isSome
   else if zK P S h = 5 then decide (zbgn (sw S) h (sm S) = 0)
   else decide (h = 0) && zallAt P n S (zK P S h))
def zupH (S : zS) (h : Nat) (H : zH) : zS := (va_up (sh S) h H, sm S, sw S)
def zgoOn (P : zPr) (o : Nat → Bool) (n : Nat) (S : zS) (h : Nat) : zS := zupH S h (zgoes P o n h (znx P (hat (sh S h))) (sh S h))
def zput (P : zPr) (H : zH) (v f : Int32) : zH := (hat H, hst H, va_up (hvr H) (zvr P (hat H)) v, f, htd H)
def zgetH (P : zPr) (o : Nat → Bool) (n h : Nat) (H : zH) (f v : Int32) (len : Nat) : zH :=
  if zms P (hat H) < len then (hat H, true, va_up (hvr H) (zvr P (hat H)) v, f, htd H) else zgoes P o n h (znx P (hat H)) (zput P H v f)
def zgets (P : zPr) (o : Nat → Bool) (n : Nat) (S : zS) (h : Nat) (f v : Int32) (len : Nat) : zS := zupH S h (zgetH P o n h (sh S h) f v len)
def zlay (P : zPr) (o : Nat → Bool) (n : Nat) (S : zS) (h : Nat) : zS := zgoOn P o n (zlie S (8 * h + zto P n S h, zmk P n S h, zwd P n S h, zms P (hat (sh S h)), decide (zK P S h = 2))) h
def zover (P : zPr) (o : Nat → Bool) (n : Nat) (S : zS) (h : Nat) : zS := zgoOn P o n (zgets P o n S (zto P n S h) (Int32.ofNat h) (zwd P n S h) (zms P (hat (sh S h)))) h
def ztake (P : zPr) (o : Nat → Bool) (n : Nat) (S : zS) (h f : Nat) : zS :=
  zgets P o n (zout S ((zfnd S f h (zmk P n S h)).getD 0)) h (Int32.ofNat f) (wvl (sw S ((zfnd S f h (zmk P n S h)).getD 0))) (wln (sw S ((zfnd S f h (zmk P n S h)).getD 0)))
def zsum (P : zPr) (n : Nat) (S : zS) : Nat → Int32
  | 0 => 0
  | h + 1 => zsum P n S h + zev P n h (sh S h) (hat (sh S h)) 0
def ztogH (P : zPr) (o : Nat → Bool) (n h : Nat) (H : zH) (k : Nat) (v : Int32) : zH := zgoes P o n h (znx P (hat H)) (if k = 7 then zput P H v (hfr H) else H)
def ztog (P : zPr) (o : Nat → Bool) (n : Nat) (S : zS) (k : Nat) : zS := (fun h => if h < n then ztogH P o n h (sh S h) k (zsum P n S n) else sh S h, sm S, sw S)
def zmove (P : zPr) (o : Nat → Bool) (n r : Nat) (S : zS) (h f : Nat) : zS :=
  if zK P S h ≤ 2 then (if zmay P n r S h = true then zlay P o n S h else zover P o n S h)
  else if zK P S h = 3 then ztake P o n S h (zto P n S h)
  else if zK P S h = 4 then ztake P o n S h f
  else if zK P S h = 5 then zgoOn P o n S h
  else ztog P o n S (zK P S h)
def zH0 : zH := (40, false, fun _ => 0, 0, 0)
def zbeg (P : zPr) (o : Nat → Bool) (n : Nat) : zS := (fun h => if h < n then zgoes P o n h (if zN P = 0 then 40 else 0) zH0 else zH0, 0, fun _ => (0, 0, 0, 0, false))
/-- states are alike -/
def zlikeH (H J : zH) : Bool := decide (hat H = hat J) && decide (hst H = hst J) && decide (hfr H = hfr J) && decide (htd H = htd J) && zall (fun k => decide (hvr H k = hvr J k)) 4
def zlike (n : Nat) (S T : zS) : Bool := decide (sm S = sm T) && zall (fun h => zlikeH (sh S h) (sh T h)) n && zall (fun k => decide (sw S k = sw T k)) (sm S)
def zwf (P : zPr) (n : Nat) (S : zS) : Prop := ∀ h, h < n → hat (sh S h) < zN P ∨ hat (sh S h) = 40
