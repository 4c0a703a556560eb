set_option maxRecDepth 100000
abbrev g_G : Type := Nat × Nat × (Nat → Nat) × (Nat → Nat) × (Nat → Nat → Int32) × (Nat → Nat → Int64) × (Nat → Nat → Option Nat)
def gsz (G : g_G) : Nat := G.1
def gsl (G : g_G) : Nat := G.2.1
def gcl (G : g_G) : Nat → Nat := G.2.2.1
def gln (G : g_G) : Nat → Nat := G.2.2.2.1
def gI (G : g_G) : Nat → Nat → Int32 := G.2.2.2.2.1
def gL (G : g_G) : Nat → Nat → Int64 := G.2.2.2.2.2.1
def gR (G : g_G) : Nat → Nat → Option Nat := G.2.2.2.2.2.2
def g2 {α : Type} (f : Nat → Nat → α) (a k : Nat) (v : α) : Nat → Nat → α := fun b j => if b = a ∧ j = k then v else f b j
def gsI (G : g_G) (a k : Nat) (v : Int32) : g_G := (gsz G, gsl G, gcl G, gln G, g2 (gI G) a k v, gL G, gR G)
def gsL (G : g_G) (a k : Nat) (v : Int64) : g_G := (gsz G, gsl G, gcl G, gln G, gI G, g2 (gL G) a k v, gR G)
def gsR (G : g_G) (a k : Nat) (v : Option Nat) : g_G := (gsz G, gsl G, gcl G, gln G, gI G, gL G, g2 (gR G) a k v)
def gnew (G : g_G) (c n : Nat) : g_G := (gsz G + 1, gsl G + n, va_up (gcl G) (gsz G) c, va_up (gln G) (gsz G) n, va_up (gI G) (gsz G) (fun _ => 0), va_up (gL G) (gsz G) (fun _ => 0), va_up (gR G) (gsz G) (fun _ => none))
abbrev g_E : Type := Nat × Nat × Nat × (Nat → Nat)
def gB (E : g_E) : Nat := E.1
def gMc (E : g_E) : Nat := E.2.1
def gMs (E : g_E) : Nat := E.2.2.1
def gA (E : g_E) : Nat → Nat := E.2.2.2
def grI (G : g_G) (lo hi : Nat) (r : Option Nat) (k : Nat) : Option Int32 := r.bind fun a => if lo ≤ gcl G a ∧ gcl G a ≤ hi then some (gI G a k) else none
def grR (G : g_G) (lo hi : Nat) (r : Option Nat) (k : Nat) : Option (Option Nat) := r.bind fun a => if lo ≤ gcl G a ∧ gcl G a ≤ hi then some (gR G a k) else none
def gpI (E : g_E) (G : g_G) (lo hi : Nat) (r : Option Nat) (k : Nat) (v : Int32) : Option g_G := r.bind fun a => if gB E ≤ a ∧ lo ≤ gcl G a ∧ gcl G a ≤ hi then some (gsI G a k v) else none
def gpZ (E : g_E) (G : g_G) (lo hi : Nat) (r : Option Nat) (k : Nat) (v : Int32) : Option g_G := r.bind fun a => if (v = 0 ∨ v = 1) ∧ gB E ≤ a ∧ lo ≤ gcl G a ∧ gcl G a ≤ hi then some (gsI G a k v) else none
def gpB (E : g_E) (G : g_G) (lo hi : Nat) (r : Option Nat) (k : Nat) (v : Int32) : Option g_G := r.bind fun a => if v.toInt8.toInt32 = v ∧ gB E ≤ a ∧ lo ≤ gcl G a ∧ gcl G a ≤ hi then some (gsI G a k v) else none
def gpC (E : g_E) (G : g_G) (lo hi : Nat) (r : Option Nat) (k : Nat) (v : Int32) : Option g_G := r.bind fun a => if v.toUInt32.toUInt16.toUInt32.toInt32 = v ∧ gB E ≤ a ∧ lo ≤ gcl G a ∧ gcl G a ≤ hi then some (gsI G a k v) else none
def gpR (E : g_E) (G : g_G) (lo hi : Nat) (r : Option Nat) (k : Nat) (v : Option Nat) : Option g_G := r.bind fun a => if gB E ≤ a ∧ lo ≤ gcl G a ∧ gcl G a ≤ hi then some (gsR G a k v) else none
def gaI (G : g_G) (c : Nat) (r : Option Nat) (i : Int32) : Option Int32 := r.bind fun a => if gcl G a = c ∧ ¬ (i < 0 ∨ gln G a ≤ i.toNatClampNeg) then some (gI G a i.toNatClampNeg) else none
def gaL (G : g_G) (r : Option Nat) (i : Int32) : Option Int64 := r.bind fun a => if gcl G a = 110 ∧ ¬ (i < 0 ∨ gln G a ≤ i.toNatClampNeg) then some (gL G a i.toNatClampNeg) else none
def gaR (G : g_G) (c : Nat) (r : Option Nat) (i : Int32) : Option (Option Nat) := r.bind fun a => if gcl G a = c ∧ ¬ (i < 0 ∨ gln G a ≤ i.toNatClampNeg) then some (gR G a i.toNatClampNeg) else none
def gsaI (E : g_E) (G : g_G) (r : Option Nat) (i v : Int32) : Option g_G := r.bind fun a => if gB E ≤ a ∧ gcl G a = 100 ∧ ¬ (i < 0 ∨ gln G a ≤ i.toNatClampNeg) then some (gsI G a i.toNatClampNeg v) else none
def gsaB (E : g_E) (G : g_G) (r : Option Nat) (i v : Int32) : Option g_G := r.bind fun a => if gB E ≤ a ∧ gcl G a = 101 ∧ ¬ (i < 0 ∨ gln G a ≤ i.toNatClampNeg) then some (gsI G a i.toNatClampNeg v.toInt8.toInt32) else none
def gsaZ (E : g_E) (G : g_G) (r : Option Nat) (i v : Int32) : Option g_G := r.bind fun a => if gB E ≤ a ∧ gcl G a = 102 ∧ ¬ (i < 0 ∨ gln G a ≤ i.toNatClampNeg) then some (gsI G a i.toNatClampNeg (v &&& 1)) else none
def gsaL (E : g_E) (G : g_G) (r : Option Nat) (i : Int32) (v : Int64) : Option g_G := r.bind fun a => if gB E ≤ a ∧ gcl G a = 110 ∧ ¬ (i < 0 ∨ gln G a ≤ i.toNatClampNeg) then some (gsL G a i.toNatClampNeg v) else none
def gasg (c d : Nat) : Bool := (c == 120 && Nat.ble 1 d && Nat.ble d 22) || (c == 121 && d == 3) || (c == 122 && Nat.ble 11 d && Nat.ble d 16) || (c == 123 && d == 19)
def gsaR (E : g_E) (G : g_G) (c : Nat) (r : Option Nat) (i : Int32) (v : Option Nat) : Option g_G := r.bind fun a => if gB E ≤ a ∧ gcl G a = c ∧ ¬ (i < 0 ∨ gln G a ≤ i.toNatClampNeg) ∧ v.all (fun b => gasg c (gcl G b)) = true then some (gsR G a i.toNatClampNeg v) else none
def galen (G : g_G) (r : Option Nat) : Option Int32 := r.bind fun a => if 100 ≤ gcl G a then some (Int32.ofNat (gln G a)) else none
def gnewO (E : g_E) (G : g_G) (c n : Nat) : Option (Nat × g_G) := if gsz G + 1 ≤ gMc E ∧ gsl G + n ≤ gMs E then some (gsz G, gnew G c n) else none
def gnewA (E : g_E) (G : g_G) (c : Nat) (n : Int32) : Option (Nat × g_G) := if ¬ n < 0 ∧ n.toNatClampNeg ≤ 67108864 ∧ gsz G + 1 ≤ gMc E ∧ gsl G + n.toNatClampNeg ≤ gMs E then some (gsz G, gnew G c n.toNatClampNeg) else none
def gcpy {α : Type} (f : Nat → Nat → α) (a b sp dp n : Nat) : Nat → Nat → α := fun x j => if x = b ∧ dp ≤ j ∧ j < dp + n then f a (sp + (j - dp)) else f x j
def gfit (G : g_G) (c a j : Nat) : Bool := if c = 101 then decide ((gI G a j).toInt8.toInt32 = gI G a j) else (gR G a j).all fun b => gasg 120 (gcl G b)
def gcopy (E : g_E) (G : g_G) (r : Option Nat) (i : Int32) (q : Option Nat) (j n : Int32) : Option g_G := r.bind fun a => q.bind fun b =>
  if gB E ≤ b ∧ (gcl G a = 101 ∨ gcl G a = 120) ∧ gcl G b = gcl G a ∧ ¬ i < 0 ∧ ¬ j < 0 ∧ ¬ n < 0 ∧ i.toNatClampNeg + n.toNatClampNeg ≤ gln G a ∧ j.toNatClampNeg + n.toNatClampNeg ≤ gln G b ∧ ∀ k, k < n.toNatClampNeg → gfit G (gcl G a) a (i.toNatClampNeg + k) = true
  then some (gsz G, gsl G, gcl G, gln G, gcpy (gI G) a b i.toNatClampNeg j.toNatClampNeg n.toNatClampNeg, gcpy (gL G) a b i.toNatClampNeg j.toNatClampNeg n.toNatClampNeg, gcpy (gR G) a b i.toNatClampNeg j.toNatClampNeg n.toNatClampNeg) else none
def gQ (E : g_E) (i : Nat) : Option Nat := if gA E (1000 + 2 * i) = 0 then none else some (gA E (1001 + 2 * i))
def gcast (G : g_G) (lo hi : Nat) (r : Option Nat) : Option (Option Nat) := match r with
  | none => some none
  | some a => if lo ≤ gcl G a ∧ gcl G a ≤ hi then some (some a) else none
def gchk (G : g_G) (k : Nat) (r : Option Nat) : Option Nat := r.bind fun a => if gcl G a = k then some a else none
def gFU : Nat := 1000000000000
def gDP : Nat := 24
def ginst (G : g_G) (k : Nat) (r : Option Nat) : Option Int32 := match r with
  | none => some 0
  | some a => if gcl G a = k then some 1 else none
def gdup (G : g_G) (a : Nat) : g_G := (gsz G + 1, gsl G + gln G a, va_up (gcl G) (gsz G) (gcl G a), va_up (gln G) (gsz G) (gln G a), va_up (gI G) (gsz G) (gI G a), va_up (gL G) (gsz G) (gL G a), va_up (gR G) (gsz G) (gR G a))
def gclone (E : g_E) (G : g_G) (r : Option Nat) : Option (Nat × g_G) := r.bind fun a => if gB E ≤ a ∧ gcl G a = 101 ∧ gsz G + 1 ≤ gMc E ∧ gsl G + gln G a ≤ gMs E ∧ ∀ k, k < gln G a → gfit G 101 a k = true then some (gsz G, gdup G a) else none
def gexI (E : g_E) (G : g_G) (k a : Nat) : Option g_G := if gcl G a = k ∧ gB E ≤ a ∧ gR G a 4 = none then some (gsR (gsR (gsR G a 0 (some a)) a 1 (gQ E 11)) a 2 (gQ E 12)) else none
abbrev gX : Type := Nat × Nat × g_G
def gcat {α β : Type} (x : Option (α ⊕ gX)) (f : α → Option β) (k : gX → Option β) : Option β := x.bind fun o => match o with
  | .inl z => f z
  | .inr y => k y
def gthr (E : g_E) (G : g_G) (k : Nat) (r : Option Nat) : Option Nat := r.bind fun a => if gcl G a = k ∧ gB E ≤ a then some a else none
def fJ0_init (E : g_E) (t : Nat) (G : g_G) : Option (g_G) :=
  some G
def fJ11_newLength (E : g_E) (v0 : Int32) (v1 : Int32) (v2 : Int32) (G : g_G) : Option (Int32 × g_G) :=
  if (v0 + (if v1 < v2 then v2 else v1)) ≤ (0 : Int32) then (
    none)
  else (
    if (2147483639 : Int32) < (v0 + (if v1 < v2 then v2 else v1)) then (
      none)
    else (
      some ((v0 + (if v1 < v2 then v2 else v1)), G)))
def fJ11_signedHashCode_b8 (E : g_E) : Nat → Int32 → (Option Nat) → Int32 → Int32 → g_G → Option (Int32 × g_G)
  | 0, _, _, _, _, _ => none
  | n + 1, v0, v1, v4, v5, G =>
    if v4 ≤ v5 then (
      some (v0, G))
    else (
      (gaI G 101 v1 v5).bind fun x22 =>
      fJ11_signedHashCode_b8 E n ((31 * v0) + (x22 &&& 255)) v1 v4 (v5 + 1) G)
def fJ11_signedHashCode (E : g_E) (v0 : Int32) (v1 : Option Nat) (v2 : Int32) (v3 : Int32) (G : g_G) : Option (Int32 × g_G) :=
  fJ11_signedHashCode_b8 E gFU v0 v1 (v2 + v3) v2 G
def fJ11_vectorizedHashCode (E : g_E) (v0 : Option Nat) (v1 : Int32) (v2 : Int32) (v3 : Int32) (v4 : Int32) (G : g_G) : Option (Int32 × g_G) :=
  if v4 = 4 then (
    (gcast G 101 101 v0).bind fun x46 =>
    (fJ11_signedHashCode E v3 x46 v1 v2 G).bind fun z51 =>
    some (z51.1, z51.2))
  else
  if v4 = 5 then (
    none)
  else
  if v4 = 8 then (
    (gcast G 101 101 v0).bind fun x92 =>
    none)
  else
  if v4 = 9 then (
    none)
  else
  if v4 = 10 then (
    (gcast G 100 100 v0).bind fun x118 =>
    none)
  else
  (
    none)
def fJ13_checkLength (E : g_E) (v0 : Int32) (v1 : Int32) (G : g_G) : Option (g_G) :=
  if v0 ≤ v1 then (
    some G)
  else (
    none)
def fJ13_copyOfRangeByte (E : g_E) (v0 : Option Nat) (v1 : Int32) (v2 : Int32) (G : g_G) : Option (Option Nat × g_G) :=
  (fJ13_checkLength E v1 v2 G).bind fun z2 =>
  (gnewA E z2 101 (v2 - v1)).bind fun z10 =>
  (galen z10.2 v0).bind fun x20 =>
  (gcopy E z10.2 v0 v1 (some z10.1) 0 (if (v2 - v1) < (x20 - v1) then (v2 - v1) else (x20 - v1))).bind fun G27 =>
  some ((some z10.1), G27)
def fJ13_copyOf_3 (E : g_E) (v0 : Option Nat) (v1 : Int32) (v2 : Option Nat) (G : g_G) : Option (Option Nat × g_G) :=
  if ¬ v2 = (some (gA E 7)) then (
    none)
  else (
    (gnewA E G 120 v1).bind fun z7 =>
    (galen z7.2 v0).bind fun x30 =>
    (gcopy E z7.2 v0 0 (some z7.1) 0 (if v1 < x30 then v1 else x30)).bind fun G35 =>
    some ((some z7.1), G35))
def fJ14_checkFromIndexSize_b15 (E : g_E) (v0 : Int32) (v1 : Int32) (v2 : Int32) (v3 : Option Nat) (G : g_G) : Option (Int32 × g_G) :=
  none
def fJ14_checkFromIndexSize (E : g_E) (v0 : Int32) (v1 : Int32) (v2 : Int32) (v3 : Option Nat) (G : g_G) : Option (Int32 × g_G) :=
  if ((v2 ||| v0) ||| v1) < 0 then (
    fJ14_checkFromIndexSize_b15 E v0 v1 v2 v3 G)
  else (
    if v1 ≤ (v2 - v0) then (
      some (v0, G))
    else (
      fJ14_checkFromIndexSize_b15 E v0 v1 v2 v3 G))
def fJ14_checkFromToIndex_b14 (E : g_E) (v0 : Int32) (v1 : Int32) (v2 : Int32) (v3 : Option Nat) (G : g_G) : Option (Int32 × g_G) :=
  none
def fJ14_checkFromToIndex (E : g_E) (v0 : Int32) (v1 : Int32) (v2 : Int32) (v3 : Option Nat) (G : g_G) : Option (Int32 × g_G) :=
  if v0 < 0 then (
    fJ14_checkFromToIndex_b14 E v0 v1 v2 v3 G)
  else (
    if v1 < v0 then (
      fJ14_checkFromToIndex_b14 E v0 v1 v2 v3 G)
    else (
      if v1 ≤ v2 then (
        some (v0, G))
      else (
        fJ14_checkFromToIndex_b14 E v0 v1 v2 v3 G)))
def fJ14_checkIndex_b9 (E : g_E) (v0 : Int32) (v1 : Int32) (v2 : Option Nat) (G : g_G) : Option (Int32 × g_G) :=
  none
def fJ14_checkIndex (E : g_E) (v0 : Int32) (v1 : Int32) (v2 : Option Nat) (G : g_G) : Option (Int32 × g_G) :=
  if v0 < 0 then (
    fJ14_checkIndex_b9 E v0 v1 v2 G)
  else (
    if v0 < v1 then (
      some (v0, G))
    else (
      fJ14_checkIndex_b9 E v0 v1 v2 G))
def fJ15_canEncode (E : g_E) (v0 : Int32) (G : g_G) : Option (Int32 × g_G) :=
  if (255 : Int32) < v0 then (
    if (0 : Int32) = 0 ∨ (0 : Int32) = 1 then some (0, G) else none)
  else (
    if (1 : Int32) = 0 ∨ (1 : Int32) = 1 then some (1, G) else none)
def fJ15_canEncode_2 (E : g_E) (v0 : Int32) (G : g_G) : Option (Int32 × g_G) :=
  if v0 < 0 then (
    if (0 : Int32) = 0 ∨ (0 : Int32) = 1 then some (0, G) else none)
  else (
    if (255 : Int32) < v0 then (
      if (0 : Int32) = 0 ∨ (0 : Int32) = 1 then some (0, G) else none)
    else (
      if (1 : Int32) = 0 ∨ (1 : Int32) = 1 then some (1, G) else none))
def fJ15_equals_b9 (E : g_E) : Nat → (Option Nat) → (Option Nat) → Int32 → g_G → Option (Int32 × g_G)
  | 0, _, _, _, _ => none
  | n + 1, v0, v1, v2, G =>
    (galen G v0).bind fun x11 =>
    if x11 ≤ v2 then (
      if (1 : Int32) = 0 ∨ (1 : Int32) = 1 then some (1, G) else none)
    else (
      (gaI G 101 v0 v2).bind fun x17 =>
      (gaI G 101 v1 v2).bind fun x20 =>
      if x17 = x20 then (
        fJ15_equals_b9 E n v0 v1 (v2 + 1) G)
      else (
        if (0 : Int32) = 0 ∨ (0 : Int32) = 1 then some (0, G) else none))
def fJ15_equals (E : g_E) (v0 : Option Nat) (v1 : Option Nat) (G : g_G) : Option (Int32 × g_G) :=
  (galen G v0).bind fun x1 =>
  (galen G v1).bind fun x3 =>
  if ¬ x1 = x3 then (
    if (0 : Int32) = 0 ∨ (0 : Int32) = 1 then some (0, G) else none)
  else (
    fJ15_equals_b9 E gFU v0 v1 0 G)
def fJ15_hashCode (E : g_E) (v0 : Option Nat) (G : g_G) : Option (Int32 × g_G) :=
  (galen G v0).bind fun x1 =>
  if x1 = 0 then (
    some (0, G))
  else
  if x1 = 1 then (
    (gaI G 101 v0 0).bind fun x34 =>
    some ((x34 &&& 255), G))
  else
  (
    (galen G v0).bind fun x45 =>
    (fJ11_vectorizedHashCode E v0 0 x45 0 4 G).bind fun z48 =>
    some (z48.1, z48.2))
def fJ15_indexOfChar_b7 (E : g_E) : Nat → (Option Nat) → Int32 → Int32 → Int32 → g_G → Option (Int32 × g_G)
  | 0, _, _, _, _, _ => none
  | n + 1, v0, v3, v4, v5, G =>
    if v3 ≤ v5 then (
      some ((-1), G))
    else (
      (gaI G 101 v0 v5).bind fun x16 =>
      if ¬ x16 = v4 then (
        fJ15_indexOfChar_b7 E n v0 v3 v4 (v5 + 1) G)
      else (
        some (v5, G)))
def fJ15_indexOfChar (E : g_E) (v0 : Option Nat) (v1 : Int32) (v2 : Int32) (v3 : Int32) (G : g_G) : Option (Int32 × g_G) :=
  fJ15_indexOfChar_b7 E gFU v0 v3 (Int8.toInt32 (Int32.toInt8 v1)) v2 G
def fJ15_toBytes (E : g_E) (v0 : Int32) (G : g_G) : Option (Option Nat × g_G) :=
  (gnewA E G 101 1).bind fun z1 =>
  (gsaB E z1.2 (some z1.1) 0 (Int8.toInt32 (Int32.toInt8 v0))).bind fun G7 =>
  some ((some z1.1), G7)
def fJ16_numberOfTrailingZeros_b74 (E : g_E) (v0 : Int32) (v1 : Int32) (G : g_G) : Option (Int32 × g_G) :=
  some ((v1 + (((Int32.toUInt32 v0) >>> ((Int32.toUInt32 1) &&& Int32.toUInt32 31)).toInt32)), G)
def fJ16_numberOfTrailingZeros_b62 (E : g_E) (v0 : Int32) (v1 : Int32) (G : g_G) : Option (Int32 × g_G) :=
  if v0 ≤ (4 : Int32) then (
    fJ16_numberOfTrailingZeros_b74 E v0 v1 G)
  else (
    fJ16_numberOfTrailingZeros_b74 E (((Int32.toUInt32 v0) >>> ((Int32.toUInt32 2) &&& Int32.toUInt32 31)).toInt32) (v1 + 2) G)
def fJ16_numberOfTrailingZeros_b49 (E : g_E) (v0 : Int32) (v1 : Int32) (G : g_G) : Option (Int32 × g_G) :=
  if v0 ≤ (16 : Int32) then (
    fJ16_numberOfTrailingZeros_b62 E v0 v1 G)
  else (
    fJ16_numberOfTrailingZeros_b62 E (((Int32.toUInt32 v0) >>> ((Int32.toUInt32 4) &&& Int32.toUInt32 31)).toInt32) (v1 + 4) G)
def fJ16_numberOfTrailingZeros_b34 (E : g_E) (v0 : Int32) (v1 : Int32) (G : g_G) : Option (Int32 × g_G) :=
  if v0 ≤ (256 : Int32) then (
    fJ16_numberOfTrailingZeros_b49 E v0 v1 G)
  else (
    fJ16_numberOfTrailingZeros_b49 E (((Int32.toUInt32 v0) >>> ((Int32.toUInt32 8) &&& Int32.toUInt32 31)).toInt32) (v1 + 8) G)
def fJ16_numberOfTrailingZeros (E : g_E) (v0 : Int32) (G : g_G) : Option (Int32 × g_G) :=
  if 0 < ((v0 ^^^ (-1)) &&& (v0 - 1)) then (
    if ((v0 ^^^ (-1)) &&& (v0 - 1)) ≤ (65536 : Int32) then (
      fJ16_numberOfTrailingZeros_b34 E ((v0 ^^^ (-1)) &&& (v0 - 1)) 1 G)
    else (
      fJ16_numberOfTrailingZeros_b34 E (((Int32.toUInt32 ((v0 ^^^ (-1)) &&& (v0 - 1))) >>> ((Int32.toUInt32 16) &&& Int32.toUInt32 31)).toInt32) (1 + 16) G))
  else (
    some ((((v0 ^^^ (-1)) &&& (v0 - 1)) &&& 32), G))
def fJ17_charValue (E : g_E) (t : Nat) (G : g_G) : Option (Int32 × g_G) :=
  (grI G 20 20 (some t) 0).bind fun x1 =>
  if (Int32.toUInt32 x1).toUInt16.toUInt32.toInt32 = x1 then some (x1, G) else none
def fJ17_highSurrogate (E : g_E) (v0 : Int32) (G : g_G) : Option (Int32 × g_G) :=
  if (Int32.toUInt32 (UInt32.toInt32 (Int32.toUInt32 ((((Int32.toUInt32 v0) >>> ((Int32.toUInt32 10) &&& Int32.toUInt32 31)).toInt32) + 55232) % 65536))).toUInt16.toUInt32.toInt32 = (UInt32.toInt32 (Int32.toUInt32 ((((Int32.toUInt32 v0) >>> ((Int32.toUInt32 10) &&& Int32.toUInt32 31)).toInt32) + 55232) % 65536)) then some ((UInt32.toInt32 (Int32.toUInt32 ((((Int32.toUInt32 v0) >>> ((Int32.toUInt32 10) &&& Int32.toUInt32 31)).toInt32) + 55232) % 65536)), G) else none
def fJ17_init (E : g_E) (t : Nat) (v1 : Int32) (G : g_G) : Option (g_G) :=
  (gpC E G 20 20 (some t) 0 v1).bind fun G6 =>
  some G6
def fJ17_isValidCodePoint (E : g_E) (v0 : Int32) (G : g_G) : Option (Int32 × g_G) :=
  if (17 : Int32) ≤ (((Int32.toUInt32 v0) >>> ((Int32.toUInt32 16) &&& Int32.toUInt32 31)).toInt32) then (
    if (0 : Int32) = 0 ∨ (0 : Int32) = 1 then some (0, G) else none)
  else (
    if (1 : Int32) = 0 ∨ (1 : Int32) = 1 then some (1, G) else none)
def fJ17_lowSurrogate (E : g_E) (v0 : Int32) (G : g_G) : Option (Int32 × g_G) :=
  if (Int32.toUInt32 (UInt32.toInt32 (Int32.toUInt32 ((v0 &&& 1023) + 56320) % 65536))).toUInt16.toUInt32.toInt32 = (UInt32.toInt32 (Int32.toUInt32 ((v0 &&& 1023) + 56320) % 65536)) then some ((UInt32.toInt32 (Int32.toUInt32 ((v0 &&& 1023) + 56320) % 65536)), G) else none
def fJ17_valueOf (E : g_E) (v0 : Int32) (G : g_G) : Option (Option Nat × g_G) :=
  if (127 : Int32) < v0 then (
    (gnewO E G 20 1).bind fun z12 =>
    (fJ17_init E z12.1 v0 z12.2).bind fun z17 =>
    some ((some z12.1), z17))
  else (
    (gaR G 124 (some (gA E 6)) v0).bind fun x10 =>
    some (x10, G))
def fJ18_checkIndex (E : g_E) (v0 : Int32) (v1 : Int32) (G : g_G) : Option (Int32 × g_G) :=
  (fJ14_checkIndex E v0 v1 none G).bind fun z3 =>
  some (z3.1, z3.2)
def fJ19_init (E : g_E) (t : Nat) (G : g_G) : Option (g_G) :=
  none
def fJ1_init (E : g_E) (t : Nat) (G : g_G) : Option (g_G) :=
  (fJ0_init E t G).bind fun z1 =>
  (gpI E z1 17 17 (some t) 0 0).bind fun G6 =>
  some G6
def fJ2_clear_b27 (E : g_E) : Nat → (Option Nat) → Int32 → Int32 → g_G → Option (g_G)
  | 0, _, _, _, _ => none
  | n + 1, v1, v2, v3, G =>
    if v2 ≤ v3 then (
      some G)
    else (
      (gsaR E G 120 v1 v3 none).bind fun G35 =>
      fJ2_clear_b27 E n v1 v2 (v3 + 1) G35)
def fJ2_clear (E : g_E) (t : Nat) (G : g_G) : Option (g_G) :=
  (grI G 17 17 (some t) 0).bind fun x2 =>
  (gpI E G 17 17 (some t) 0 (x2 + 1)).bind fun G7 =>
  (grR G7 17 17 (some t) 1).bind fun x11 =>
  (grI G7 17 17 (some t) 2).bind fun x16 =>
  (gpI E G7 17 17 (some t) 2 0).bind fun G23 =>
  fJ2_clear_b27 E gFU x11 x16 0 G23
def fJ2_elementData (E : g_E) (t : Nat) (v1 : Int32) (G : g_G) : Option (Option Nat × g_G) :=
  (grR G 17 17 (some t) 1).bind fun x1 =>
  (gaR G 120 x1 v1).bind fun x5 =>
  some (x5, G)
def fJ2_get (E : g_E) (t : Nat) (v1 : Int32) (G : g_G) : Option (Option Nat × g_G) :=
  (grI G 17 17 (some t) 2).bind fun x2 =>
  (fJ18_checkIndex E v1 x2 G).bind fun z5 =>
  (gchk z5.2 17 (some t)).bind fun b11 =>
  (fJ2_elementData E b11 v1 z5.2).bind fun z11 =>
  some (z11.1, z11.2)
def fJ2_init (E : g_E) (t : Nat) (v1 : Int32) (G : g_G) : Option (g_G) :=
  (fJ1_init E t G).bind fun z1 =>
  if v1 ≤ 0 then (
    if ¬ v1 = 0 then (
      none)
    else (
      none))
  else (
    (gnewA E z1 120 v1).bind fun z10 =>
    (gpR E z10.2 17 17 (some t) 1 (some z10.1)).bind fun G13 =>
    some G13)
def fJ2_isEmpty (E : g_E) (t : Nat) (G : g_G) : Option (Int32 × g_G) :=
  (grI G 17 17 (some t) 2).bind fun x1 =>
  if ¬ x1 = 0 then (
    if (0 : Int32) = 0 ∨ (0 : Int32) = 1 then some (0, G) else none)
  else (
    if (1 : Int32) = 0 ∨ (1 : Int32) = 1 then some (1, G) else none)
def fJ2_rangeCheckForAdd (E : g_E) (t : Nat) (v1 : Int32) (G : g_G) : Option (g_G) :=
  (grI G 17 17 (some t) 2).bind fun x2 =>
  if x2 < v1 then (
    none)
  else (
    if 0 ≤ v1 then (
      some G)
    else (
      none))
def fJ2_set (E : g_E) (t : Nat) (v1 : Int32) (v2 : Option Nat) (G : g_G) : Option (Option Nat × g_G) :=
  (grI G 17 17 (some t) 2).bind fun x2 =>
  (fJ18_checkIndex E v1 x2 G).bind fun z5 =>
  (gchk z5.2 17 (some t)).bind fun b11 =>
  (fJ2_elementData E b11 v1 z5.2).bind fun z11 =>
  (grR z11.2 17 17 (some t) 1).bind fun x16 =>
  (gsaR E z11.2 120 x16 v1 v2).bind fun G21 =>
  some (z11.1, G21)
def fJ2_size (E : g_E) (t : Nat) (G : g_G) : Option (Int32 × g_G) :=
  (grI G 17 17 (some t) 2).bind fun x1 =>
  some (x1, G)
def fJ4_init (E : g_E) (t : Nat) (v1 : Option Nat) (G : g_G) : Option (g_G) :=
  none
def fJ4_init_2 (E : g_E) (t : Nat) (G : g_G) : Option (g_G) :=
  none
def fJ5_init (E : g_E) (t : Nat) (v1 : Option Nat) (G : g_G) : Option (g_G) :=
  none
def fJ5_init_2 (E : g_E) (t : Nat) (G : g_G) : Option (g_G) :=
  none
def fJ6_init (E : g_E) (t : Nat) (v1 : Option Nat) (G : g_G) : Option (g_G) :=
  none
def fJ6_init_2 (E : g_E) (t : Nat) (G : g_G) : Option (g_G) :=
  none
def fJ7_append_2 (E : g_E) (t : Nat) (v1 : Int32) (G : g_G) : Option (Option Nat × g_G) :=
  (grI G 18 18 (some t) 3).bind fun x1 =>
  none
def fJ7_ensureCapacityInternal (E : g_E) (t : Nat) (v1 : Int32) (G : g_G) : Option (g_G) :=
  (grR G 18 18 (some t) 0).bind fun x1 =>
  (galen G x1).bind fun x4 =>
  (grI G 18 18 (some t) 1).bind fun x6 =>
  if (v1 - (x4 >>> (x6 &&& 31))) ≤ 0 then (
    some G)
  else (
    (grR G 18 18 (some t) 0).bind fun x19 =>
    none)
def fJ7_getValue (E : g_E) (t : Nat) (G : g_G) : Option (Option Nat × g_G) :=
  (grR G 18 18 (some t) 0).bind fun x1 =>
  some (x1, G)
def fJ7_init (E : g_E) (t : Nat) (v1 : Int32) (G : g_G) : Option (g_G) :=
  if (1 : Int32) = 0 then (
    none)
  else (
    (gnewA E G 101 v1).bind fun z12 =>
    (gpR E z12.2 18 18 (some t) 0 (some z12.1)).bind fun G14 =>
    (gpB E G14 18 18 (some t) 1 0).bind fun G19 =>
    some G19)
def fJ7_isLatin1 (E : g_E) (t : Nat) (G : g_G) : Option (Int32 × g_G) :=
  if (1 : Int32) = 0 then (
    if (0 : Int32) = 0 ∨ (0 : Int32) = 1 then some (0, G) else none)
  else (
    (grI G 18 18 (some t) 1).bind fun x7 =>
    if ¬ x7 = 0 then (
      if (0 : Int32) = 0 ∨ (0 : Int32) = 1 then some (0, G) else none)
    else (
      if (1 : Int32) = 0 ∨ (1 : Int32) = 1 then some (1, G) else none))
def fJ7_length (E : g_E) (t : Nat) (G : g_G) : Option (Int32 × g_G) :=
  (grI G 18 18 (some t) 3).bind fun x1 =>
  some (x1, G)
def fJ8_append_2 (E : g_E) (t : Nat) (v1 : Int32) (G : g_G) : Option (Option Nat × g_G) :=
  (gchk G 18 (some t)).bind fun b2 =>
  (fJ7_append_2 E b2 v1 G).bind fun z2 =>
  some ((some t), z2.2)
def fJ8_init (E : g_E) (t : Nat) (G : g_G) : Option (g_G) :=
  (fJ7_init E t 16 G).bind fun z3 =>
  some z3
def fJ8_init_2 (E : g_E) (t : Nat) (v1 : Int32) (G : g_G) : Option (g_G) :=
  (fJ7_init E t v1 G).bind fun z2 =>
  some z2
def fJ8_length (E : g_E) (t : Nat) (G : g_G) : Option (Int32 × g_G) :=
  (gchk G 18 (some t)).bind fun b1 =>
  (fJ7_length E b1 G).bind fun z1 =>
  some (z1.1, z1.2)
def fJ9_checkBoundsBeginEnd (E : g_E) (v0 : Int32) (v1 : Int32) (v2 : Int32) (G : g_G) : Option (g_G) :=
  (fJ14_checkFromToIndex E v0 v1 v2 (gQ E 10) G).bind fun z6 =>
  some z6.2
def fJ9_checkBoundsOffCount (E : g_E) (v0 : Int32) (v1 : Int32) (v2 : Int32) (G : g_G) : Option (Int32 × g_G) :=
  (fJ14_checkFromIndexSize E v0 v1 v2 (gQ E 10) G).bind fun z6 =>
  some (z6.1, z6.2)
def fJ9_checkIndex (E : g_E) (v0 : Int32) (v1 : Int32) (G : g_G) : Option (g_G) :=
  (fJ14_checkIndex E v0 v1 (gQ E 10) G).bind fun z5 =>
  some z5.2
def fJ9_coder (E : g_E) (t : Nat) (G : g_G) : Option (Int32 × g_G) :=
  if (1 : Int32) = 0 then (
    if (Int32.toInt8 1).toInt32 = 1 then some (1, G) else none)
  else (
    (grI G 19 19 (some t) 1).bind fun x7 =>
    if (Int32.toInt8 x7).toInt32 = x7 then some (x7, G) else none)
def fJ9_equals_b36 (E : g_E) (t : Nat) (v2 : Option Nat) (G : g_G) : Option (Int32 × g_G) :=
  (grR G 19 19 (some t) 0).bind fun x37 =>
  (grR G 19 19 v2 0).bind fun x41 =>
  (fJ15_equals E x37 x41 G).bind fun z44 =>
  if z44.1 = 0 then (
    if (0 : Int32) = 0 ∨ (0 : Int32) = 1 then some (0, z44.2) else none)
  else (
    if (1 : Int32) = 0 ∨ (1 : Int32) = 1 then some (1, z44.2) else none)
def fJ9_equals (E : g_E) (t : Nat) (v1 : Option Nat) (G : g_G) : Option (Int32 × g_G) :=
  if ¬ (some t) = v1 then (
    (ginst G 19 v1).bind fun x8 =>
    if x8 = 0 then (
      if (0 : Int32) = 0 ∨ (0 : Int32) = 1 then some (0, G) else none)
    else (
      (gcast G 19 19 v1).bind fun x15 =>
      if (1 : Int32) = 0 then (
        fJ9_equals_b36 E t x15 G)
      else (
        (grI G 19 19 (some t) 1).bind fun x26 =>
        (grI G 19 19 x15 1).bind fun x30 =>
        if ¬ x26 = x30 then (
          if (0 : Int32) = 0 ∨ (0 : Int32) = 1 then some (0, G) else none)
        else (
          fJ9_equals_b36 E t x15 G))))
  else (
    if (1 : Int32) = 0 ∨ (1 : Int32) = 1 then some (1, G) else none)
def fJ9_getBytes (E : g_E) (t : Nat) (v1 : Option Nat) (v2 : Int32) (v3 : Int32) (G : g_G) : Option (g_G) :=
  (gchk G 19 (some t)).bind fun b1 =>
  (fJ9_coder E b1 G).bind fun z1 =>
  if ¬ z1.1 = v3 then (
    (grR z1.2 19 19 (some t) 0).bind fun x29 =>
    (grR z1.2 19 19 (some t) 0).bind fun x36 =>
    (galen z1.2 x36).bind fun x39 =>
    none)
  else (
    (grR z1.2 19 19 (some t) 0).bind fun x9 =>
    (grR z1.2 19 19 (some t) 0).bind fun x18 =>
    (galen z1.2 x18).bind fun x21 =>
    (gcopy E z1.2 x9 0 v1 (v2 <<< (v3 &&& 31)) x21).bind fun G22 =>
    some G22)
def fJ9_init_3 (E : g_E) (t : Nat) (v1 : Option Nat) (v2 : Int32) (G : g_G) : Option (g_G) :=
  (gpR E G 19 19 (some t) 0 v1).bind fun G6 =>
  (gpB E G6 19 19 (some t) 1 v2).bind fun G11 =>
  some G11
def fJ9_isLatin1 (E : g_E) (t : Nat) (G : g_G) : Option (Int32 × g_G) :=
  if (1 : Int32) = 0 then (
    if (0 : Int32) = 0 ∨ (0 : Int32) = 1 then some (0, G) else none)
  else (
    (grI G 19 19 (some t) 1).bind fun x7 =>
    if ¬ x7 = 0 then (
      if (0 : Int32) = 0 ∨ (0 : Int32) = 1 then some (0, G) else none)
    else (
      if (1 : Int32) = 0 ∨ (1 : Int32) = 1 then some (1, G) else none))
def fJ9_length (E : g_E) (t : Nat) (G : g_G) : Option (Int32 × g_G) :=
  (grR G 19 19 (some t) 0).bind fun x1 =>
  (galen G x1).bind fun x4 =>
  (gchk G 19 (some t)).bind fun b6 =>
  (fJ9_coder E b6 G).bind fun z6 =>
  some ((x4 >>> (z6.1 &&& 31)), z6.2)
def fJ9_valueOf_b26 (E : g_E) (v0 : Int32) (G : g_G) : Option (Option Nat × g_G) :=
  (gnewO E G 19 4).bind fun z26 =>
  none
def fJ9_valueOf (E : g_E) (v0 : Int32) (G : g_G) : Option (Option Nat × g_G) :=
  if (1 : Int32) = 0 then (
    fJ9_valueOf_b26 E v0 G)
  else (
    (fJ15_canEncode E v0 G).bind fun z7 =>
    if z7.1 = 0 then (
      fJ9_valueOf_b26 E v0 z7.2)
    else (
      (gnewO E z7.2 19 4).bind fun z13 =>
      (fJ15_toBytes E v0 z13.2).bind fun z18 =>
      (fJ9_init_3 E z13.1 z18.1 0 z18.2).bind fun z22 =>
      some ((some z13.1), z22)))
def fX10_init (E : g_E) (t : Nat) (v1 : Int32) (G : g_G) : Option (g_G) :=
  (gpI E G 8 8 (some t) 0 v1).bind fun G6 =>
  some G6
def fX10_value (E : g_E) (t : Nat) (v1 : Option Nat) (v2 : Int32) (G : g_G) : Option (Int32 × g_G) :=
  (grI G 8 8 (some t) 0).bind fun x1 =>
  some (x1, G)
def fX11_works (E : g_E) (v0 : Int32) (v1 : Int32) (v2 : Int32) (G : g_G) : Option (Int32 × g_G) :=
  if v1 = 42 then (
    some ((v0 * v2), G))
  else
  if v1 = 43 then (
    some ((v0 + v2), G))
  else
  if v1 = 45 then (
    some ((v0 - v2), G))
  else
  if v1 = 47 then (
    if ¬ v2 = 0 then (
      if v2 = 0 then none else
      some ((v0 / v2), G))
    else (
      some (0, G)))
  else
  if v1 = 60 then (
    if v2 ≤ v0 then (
      some (0, G))
    else (
      some (1, G)))
  else
  (
    if ¬ v0 = v2 then (
      some (0, G))
    else (
      some (1, G)))
def fX12_init (E : g_E) (t : Nat) (v1 : Int32) (G : g_G) : Option (g_G) :=
  (gpI E G 10 10 (some t) 0 v1).bind fun G6 =>
  some G6
def fX12_value (E : g_E) (t : Nat) (v1 : Option Nat) (v2 : Int32) (G : g_G) : Option (Int32 × g_G) :=
  (grI G 10 10 (some t) 0).bind fun x1 =>
  if (4 : Int32) ≤ x1 then (
    (grI G 10 10 (some t) 0).bind fun x25 =>
    if ¬ x25 = (4 : Int32) then (
      (grI G 10 10 (some t) 0).bind fun x37 =>
      if ¬ x37 = (5 : Int32) then (
        (grR G 3 3 v1 6).bind fun x52 =>
        (gaI G 100 x52 v2).bind fun x56 =>
        some (x56, G))
      else (
        (grI G 3 3 v1 0).bind fun x45 =>
        some (x45, G)))
    else (
      some (v2, G)))
  else (
    (grR G 3 3 v1 5).bind fun x9 =>
    (grI G 10 10 (some t) 0).bind fun x16 =>
    (gaI G 100 x9 ((4 * v2) + x16)).bind fun x20 =>
    some (x20, G))
def fX18_init (E : g_E) (t : Nat) (G : g_G) : Option (g_G) :=
  (gnewA E G 100 8).bind fun z7 =>
  (gpR E z7.2 7 7 (some t) 3 (some z7.1)).bind fun G9 =>
  some G9
def fX18_isAhead_b30 (E : g_E) : Nat → Nat → (Option Nat) → Int32 → Int32 → g_G → Option (Int32 × g_G)
  | 0, _, _, _, _, _ => none
  | n + 1, t, v1, v2, v3, G =>
    if v2 ≤ v3 then (
      (grI G 7 7 (some t) 1).bind fun x78 =>
      (grI G 7 7 v1 1).bind fun x82 =>
      if x78 = x82 then (
        (grI G 7 7 (some t) 2).bind fun x108 =>
        (grI G 7 7 v1 2).bind fun x112 =>
        if x112 ≤ x108 then (
          if (0 : Int32) = 0 ∨ (0 : Int32) = 1 then some (0, G) else none)
        else (
          if (1 : Int32) = 0 ∨ (1 : Int32) = 1 then some (1, G) else none))
      else (
        (grI G 7 7 (some t) 1).bind fun x89 =>
        (grI G 7 7 v1 1).bind fun x93 =>
        if x93 ≤ x89 then (
          if (0 : Int32) = 0 ∨ (0 : Int32) = 1 then some (0, G) else none)
        else (
          if (1 : Int32) = 0 ∨ (1 : Int32) = 1 then some (1, G) else none)))
    else (
      (grR G 7 7 (some t) 3).bind fun x36 =>
      (gaI G 100 x36 v3).bind fun x40 =>
      (grR G 7 7 v1 3).bind fun x42 =>
      (gaI G 100 x42 v3).bind fun x46 =>
      if x40 = x46 then (
        fX18_isAhead_b30 E n t v1 v2 (v3 + 1) G)
      else (
        (grR G 7 7 (some t) 3).bind fun x51 =>
        (gaI G 100 x51 v3).bind fun x55 =>
        (grR G 7 7 v1 3).bind fun x57 =>
        (gaI G 100 x57 v3).bind fun x61 =>
        if x61 ≤ x55 then (
          if (0 : Int32) = 0 ∨ (0 : Int32) = 1 then some (0, G) else none)
        else (
          if (1 : Int32) = 0 ∨ (1 : Int32) = 1 then some (1, G) else none)))
def fX18_isAhead (E : g_E) (t : Nat) (v1 : Option Nat) (v2 : Int32) (G : g_G) : Option (Int32 × g_G) :=
  (grI G 7 7 (some t) 0).bind fun x1 =>
  (grI G 7 7 v1 0).bind fun x5 =>
  if x1 = x5 then (
    fX18_isAhead_b30 E gFU t v1 v2 0 G)
  else (
    (grI G 7 7 (some t) 0).bind fun x12 =>
    (grI G 7 7 v1 0).bind fun x16 =>
    if x16 ≤ x12 then (
      if (0 : Int32) = 0 ∨ (0 : Int32) = 1 then some (0, G) else none)
    else (
      if (1 : Int32) = 0 ∨ (1 : Int32) = 1 then some (1, G) else none))
def fX18_isLike (E : g_E) (t : Nat) (v1 : Option Nat) (v2 : Int32) (G : g_G) : Option (Int32 × g_G) :=
  (gchk G 7 (some t)).bind fun b3 =>
  (fX18_isAhead E b3 v1 v2 G).bind fun z3 =>
  if ¬ z3.1 = 0 then (
    if (0 : Int32) = 0 ∨ (0 : Int32) = 1 then some (0, z3.2) else none)
  else (
    (gchk z3.2 7 v1).bind fun b12 =>
    (fX18_isAhead E b12 (some t) v2 z3.2).bind fun z12 =>
    if ¬ z12.1 = 0 then (
      if (0 : Int32) = 0 ∨ (0 : Int32) = 1 then some (0, z12.2) else none)
    else (
      if (1 : Int32) = 0 ∨ (1 : Int32) = 1 then some (1, z12.2) else none))
def fX1_clocks (E : g_E) (t : Nat) (v1 : Int32) (v2 : Int32) (G : g_G) : Option (g_G) :=
  (grR G 1 1 (some t) 6).bind fun x2 =>
  (gaI G 100 x2 v1).bind fun x6 =>
  if x6 < v2 then (
    (grR G 1 1 (some t) 7).bind fun x12 =>
    (gaI G 100 x12 v1).bind fun x17 =>
    (grR G 1 1 (some t) 6).bind fun x20 =>
    (gaI G 100 x20 v1).bind fun x24 =>
    (gsaI E G x12 v1 (x17 + (v2 - x24))).bind fun G27 =>
    (grR G27 1 1 (some t) 6).bind fun x29 =>
    (gsaI E G27 x29 v1 v2).bind fun G34 =>
    some G34)
  else (
    some G)
def fX1_fault (E : g_E) (t : Nat) (G : g_G) : Option (Int32 × g_G) :=
  (grI G 1 1 (some t) 11).bind fun x1 =>
  some (x1, G)
def fX1_hasLocked (E : g_E) (t : Nat) (G : g_G) : Option (Int32 × g_G) :=
  (grR G 1 1 (some t) 16).bind fun x1 =>
  (gchk G 17 x1).bind fun b4 =>
  (fJ2_isEmpty E b4 G).bind fun z4 =>
  if ¬ z4.1 = 0 then (
    if (0 : Int32) = 0 ∨ (0 : Int32) = 1 then some (0, z4.2) else none)
  else (
    (grR z4.2 1 1 (some t) 16).bind fun x11 =>
    (grR z4.2 1 1 (some t) 16).bind fun x15 =>
    (gchk z4.2 17 x15).bind fun b18 =>
    (fJ2_size E b18 z4.2).bind fun z18 =>
    (gchk z18.2 17 x11).bind fun b23 =>
    (fJ2_get E b23 (z18.1 - 1) z18.2).bind fun z23 =>
    (gcast z23.2 7 7 z23.1).bind fun x26 =>
    (grI z23.2 7 7 x26 0).bind fun x29 =>
    if ¬ x29 = (2 : Int32) then (
      if (0 : Int32) = 0 ∨ (0 : Int32) = 1 then some (0, z23.2) else none)
    else (
      if (1 : Int32) = 0 ∨ (1 : Int32) = 1 then some (1, z23.2) else none))
def fX1_isStep (E : g_E) (t : Nat) (v1 : Int32) (G : g_G) : Option (Int32 × g_G) :=
  if v1 < 0 then (
    if (0 : Int32) = 0 ∨ (0 : Int32) = 1 then some (0, G) else none)
  else (
    (grR G 1 1 (some t) 4).bind fun x6 =>
    (grR G 2 2 x6 0).bind fun x9 =>
    (gchk G 17 x9).bind fun b12 =>
    (fJ2_size E b12 G).bind fun z12 =>
    if z12.1 ≤ v1 then (
      if (0 : Int32) = 0 ∨ (0 : Int32) = 1 then some (0, z12.2) else none)
    else (
      if (1 : Int32) = 0 ∨ (1 : Int32) = 1 then some (1, z12.2) else none))
def fX1_lay_b3 (E : g_E) : Nat → Nat → Int32 → Int32 → g_G → Option (g_G)
  | 0, _, _, _, _ => none
  | n + 1, t, v1, v2, G =>
    if v2 < 0 then (
      some G)
    else (
      (grR G 1 1 (some t) 9).bind fun x8 =>
      (grI G 1 1 (some t) 10).bind fun x12 =>
      (gsaB E G x8 x12 (Int8.toInt32 (Int32.toInt8 (v1 >>> (v2 &&& 31))))).bind fun G19 =>
      (grI G19 1 1 (some t) 10).bind fun x22 =>
      (gpI E G19 1 1 (some t) 10 (x22 + 1)).bind fun G27 =>
      fX1_lay_b3 E n t v1 (v2 + (-8)) G27)
def fX1_lay (E : g_E) (t : Nat) (v1 : Int32) (G : g_G) : Option (g_G) :=
  fX1_lay_b3 E gFU t v1 24 G
def fX1_nextChoice (E : g_E) (t : Nat) (G : g_G) : Option (Int32 × g_G) :=
  (grI G 1 1 (some t) 25).bind fun x1 =>
  (grI G 1 1 (some t) 26).bind fun x5 =>
  if x5 ≤ x1 then (
    some ((-1), G))
  else (
    (grR G 1 1 (some t) 23).bind fun x12 =>
    (grI G 1 1 (some t) 25).bind fun x16 =>
    (gaI G 100 x12 x16).bind fun x19 =>
    some (x19, G))
def fX1_right (E : g_E) (v0 : Int32) (G : g_G) : Option ((g_G) ⊕ gX) :=
  if ¬ v0 = 0 then (
    some (.inl G))
  else (
    (gnewO E G 21 6).bind fun z4 =>
    (gexI E z4.2 21 z4.1).bind fun G8 =>
    (gthr E G8 21 (some z4.1)).bind fun b11 => some (.inr (21, b11, G8)))
def fX1_there (E : g_E) (v0 : Int32) (G : g_G) : Option ((g_G) ⊕ gX) :=
  if ¬ v0 = 0 then (
    some (.inl G))
  else (
    (gnewO E G 22 6).bind fun z4 =>
    (gexI E z4.2 22 z4.1).bind fun G8 =>
    (gthr E G8 22 (some z4.1)).bind fun b11 => some (.inr (22, b11, G8)))
def fX1_within (E : g_E) (v0 : Int32) (v1 : Int32) (v2 : Int32) (G : g_G) : Option (Int32 × g_G) :=
  if v0 < v1 then (
    if (0 : Int32) = 0 ∨ (0 : Int32) = 1 then some (0, G) else none)
  else (
    if v2 < v0 then (
      if (0 : Int32) = 0 ∨ (0 : Int32) = 1 then some (0, G) else none)
    else (
      if (1 : Int32) = 0 ∨ (1 : Int32) = 1 then some (1, G) else none))
def fX1_world_b76 (E : g_E) (t : Nat) (v1 : Int32) (v2 : Int32) (v3 : Int32) (v4 : Int32) (G : g_G) : Option (Int32 × g_G) :=
  (gpI E G 1 1 (some t) 0 v1).bind fun G78 =>
  (gpI E G78 1 1 (some t) 1 v2).bind fun G83 =>
  (gpI E G83 1 1 (some t) 2 v3).bind fun G88 =>
  (gpI E G88 1 1 (some t) 3 v4).bind fun G94 =>
  if (1 : Int32) = 0 ∨ (1 : Int32) = 1 then some (1, G94) else none
def fX1_world_b71 (E : g_E) (t : Nat) (v1 : Int32) (v2 : Int32) (v3 : Int32) (v4 : Int32) (G : g_G) : Option (Int32 × g_G) :=
  (gpZ E G 1 1 (some t) 13 0).bind fun G73 =>
  fX1_world_b76 E t v1 v2 v3 v4 G73
def fX1_world_b55 (E : g_E) (t : Nat) (v1 : Int32) (v2 : Int32) (v3 : Int32) (v4 : Int32) (G : g_G) : Option (Int32 × g_G) :=
  (grI G 1 1 (some t) 0).bind fun x57 =>
  if ¬ v1 = x57 then (
    fX1_world_b71 E t v1 v2 v3 v4 G)
  else (
    (grI G 1 1 (some t) 1).bind fun x65 =>
    if v2 = x65 then (
      fX1_world_b76 E t v1 v2 v3 v4 G)
    else (
      fX1_world_b71 E t v1 v2 v3 v4 G))
def fX1_world (E : g_E) (t : Nat) (v1 : Int32) (v2 : Int32) (v3 : Int32) (v4 : Int32) (G : g_G) : Option (Int32 × g_G) :=
  (fX1_within E v1 2 8 G).bind fun z4 =>
  if z4.1 = 0 then (
    if (0 : Int32) = 0 ∨ (0 : Int32) = 1 then some (0, z4.2) else none)
  else (
    (fX1_within E v2 0 3 z4.2).bind fun z13 =>
    if z13.1 = 0 then (
      if (0 : Int32) = 0 ∨ (0 : Int32) = 1 then some (0, z13.2) else none)
    else (
      (fX1_within E v3 0 99 z13.2).bind fun z23 =>
      if z23.1 = 0 then (
        if (0 : Int32) = 0 ∨ (0 : Int32) = 1 then some (0, z23.2) else none)
      else (
        (fX1_within E v4 0 99 z23.2).bind fun z34 =>
        if ¬ z34.1 = 0 then (
          (grI z34.2 1 1 (some t) 0).bind fun x44 =>
          if v1 = x44 then (
            fX1_world_b55 E t v1 v2 v3 v4 z34.2)
          else (
            (gpZ E z34.2 1 1 (some t) 21 0).bind fun G52 =>
            fX1_world_b55 E t v1 v2 v3 v4 G52))
        else (
          if (0 : Int32) = 0 ∨ (0 : Int32) = 1 then some (0, z34.2) else none))))
def fX2_init (E : g_E) (t : Nat) (G : g_G) : Option (g_G) :=
  (gnewO E G 17 3).bind fun z5 =>
  (fJ2_init E z5.1 4 z5.2).bind fun z10 =>
  (gpR E z10 2 2 (some t) 0 (some z5.1)).bind fun G13 =>
  some G13
def fX3_begun_b48 (E : g_E) (k4 : Nat → Int32 → Int32 → Int32 → g_G → Option (Int32 × g_G)) (t : Nat) (v1 : Int32) (v2 : Int32) (v3 : Int32) (G : g_G) : Option (Int32 × g_G) :=
  k4 t v1 v2 (v3 + 1) G
def fX3_begun_b4 (E : g_E) : Nat → Nat → Int32 → Int32 → Int32 → g_G → Option (Int32 × g_G)
  | 0, _, _, _, _, _ => none
  | n + 1, t, v1, v2, v3, G =>
    (grI G 3 3 (some t) 1).bind fun x6 =>
    if x6 ≤ v3 then (
      some (v2, G))
    else (
      (grR G 3 3 (some t) 8).bind fun x13 =>
      (gaI G 100 x13 v3).bind fun x17 =>
      if (8 : Int32) = 0 then none else
      if ¬ (x17 / 8) = v1 then (
        fX3_begun_b48 E (fX3_begun_b4 E n) t v1 v2 v3 G)
      else (
        (grR G 3 3 (some t) 11).bind fun x26 =>
        (gaI G 100 x26 v3).bind fun x30 =>
        if 0 ≤ x30 then (
          fX3_begun_b48 E (fX3_begun_b4 E n) t v1 v2 v3 G)
        else (
          (grR G 3 3 (some t) 8).bind fun x37 =>
          (gaI G 100 x37 v3).bind fun x41 =>
          if (8 : Int32) = 0 then none else
          fX3_begun_b48 E (fX3_begun_b4 E n) t v1 (v2 ||| (1 <<< ((x41 - x41 / 8 * 8) &&& 31))) v3 G)))
def fX3_begun (E : g_E) (t : Nat) (v1 : Int32) (G : g_G) : Option (Int32 × g_G) :=
  fX3_begun_b4 E gFU t v1 0 0 G
def fX3_first_b42 (E : g_E) (k3 : Nat → Int32 → Int32 → Int32 → Int32 → g_G → Option (Int32 × g_G)) (t : Nat) (v1 : Int32) (v2 : Int32) (v3 : Int32) (v4 : Int32) (G : g_G) : Option (Int32 × g_G) :=
  k3 t v1 v2 v3 (v4 + 1) G
def fX3_first_b3 (E : g_E) : Nat → Nat → Int32 → Int32 → Int32 → Int32 → g_G → Option (Int32 × g_G)
  | 0, _, _, _, _, _, _ => none
  | n + 1, t, v1, v2, v3, v4, G =>
    (grI G 3 3 (some t) 1).bind fun x6 =>
    if x6 ≤ v4 then (
      some ((-1), G))
    else (
      (grR G 3 3 (some t) 8).bind fun x13 =>
      (gaI G 100 x13 v4).bind fun x18 =>
      if ¬ x18 = ((8 * v1) + v2) then (
        fX3_first_b42 E (fX3_first_b3 E n) t v1 v2 v3 v4 G)
      else (
        (grR G 3 3 (some t) 9).bind fun x29 =>
        (gaI G 100 x29 v4).bind fun x34 =>
        if ¬ x34 = v3 then (
          fX3_first_b42 E (fX3_first_b3 E n) t v1 v2 v3 v4 G)
        else (
          some (v4, G))))
def fX3_first (E : g_E) (t : Nat) (v1 : Int32) (v2 : Int32) (v3 : Int32) (G : g_G) : Option (Int32 × g_G) :=
  fX3_first_b3 E gFU t v1 v2 v3 0 G
def fX3_hasEnded (E : g_E) (t : Nat) (v1 : Int32) (G : g_G) : Option (Int32 × g_G) :=
  (grR G 3 3 (some t) 3).bind fun x1 =>
  (gaR G 122 x1 v1).bind fun x5 =>
  if ¬ x5 = none then (
    if (0 : Int32) = 0 ∨ (0 : Int32) = 1 then some (0, G) else none)
  else (
    if (1 : Int32) = 0 ∨ (1 : Int32) = 1 then some (1, G) else none)
def fX3_hashes_b92 (E : g_E) : Nat → Nat → Int32 → Int32 → g_G → Option (g_G)
  | 0, _, _, _, _ => none
  | n + 1, t, v1, v2, G =>
    (grI G 3 3 (some t) 1).bind fun x94 =>
    if x94 ≤ v2 then (
      (gpI E G 3 3 (some t) 2 v1).bind fun G130 =>
      some G130)
    else (
      (grR G 3 3 (some t) 8).bind fun x107 =>
      (gaI G 100 x107 v2).bind fun x111 =>
      (grR G 3 3 (some t) 10).bind fun x115 =>
      (gaI G 100 x115 v2).bind fun x119 =>
      fX3_hashes_b92 E n t ((31 * ((31 * v1) + x111)) + x119) (v2 + 1) G)
def fX3_hashes_b57 (E : g_E) (k7 : Nat → Int32 → Int32 → g_G → Option (g_G)) : Nat → Nat → Int32 → Int32 → Int32 → g_G → Option (g_G)
  | 0, _, _, _, _, _ => none
  | n + 1, t, v1, v2, v3, G =>
    if (4 : Int32) ≤ v3 then (
      k7 t v1 (v2 + 1) G)
    else (
      (grR G 3 3 (some t) 5).bind fun x67 =>
      (gaI G 100 x67 ((4 * v2) + v3)).bind fun x75 =>
      fX3_hashes_b57 E k7 n t ((31 * v1) + x75) v2 (v3 + 1) G)
def fX3_hashes_b41 (E : g_E) (k7 : Nat → Int32 → Int32 → g_G → Option (g_G)) (t : Nat) (v2 : Int32) (s0 : Int32) (s1 : Int32) (G : g_G) : Option (g_G) :=
  (grR G 3 3 (some t) 7).bind fun x48 =>
  (gaI G 100 x48 v2).bind fun x52 =>
  fX3_hashes_b57 E k7 gFU t ((31 * (s0 + s1)) + x52) v2 0 G
def fX3_hashes_b7 (E : g_E) : Nat → Nat → Int32 → Int32 → g_G → Option (g_G)
  | 0, _, _, _, _ => none
  | n + 1, t, v1, v2, G =>
    (grI G 3 3 (some t) 0).bind fun x9 =>
    if x9 ≤ v2 then (
      fX3_hashes_b92 E gFU t v1 0 G)
    else (
      (grR G 3 3 (some t) 3).bind fun x20 =>
      (gaR G 122 x20 v2).bind fun x24 =>
      if ¬ x24 = none then (
        (grR G 3 3 (some t) 3).bind fun x33 =>
        (gaR G 122 x33 v2).bind fun x37 =>
        (grI G 11 16 x37 1).bind fun x38 =>
        fX3_hashes_b41 E (fX3_hashes_b7 E n) t v2 (31 * v1) x38 G)
      else (
        fX3_hashes_b41 E (fX3_hashes_b7 E n) t v2 (31 * v1) (-1) G))
def fX3_hashes (E : g_E) (t : Nat) (G : g_G) : Option (g_G) :=
  (grI G 3 3 (some t) 1).bind fun x1 =>
  fX3_hashes_b7 E gFU t x1 0 G
def fX3_init (E : g_E) (t : Nat) (G : g_G) : Option (g_G) :=
  (gnewA E G 122 8).bind fun z7 =>
  (gpR E z7.2 3 3 (some t) 3 (some z7.1)).bind fun G10 =>
  (gnewA E G10 102 8).bind fun z16 =>
  (gpR E z16.2 3 3 (some t) 4 (some z16.1)).bind fun G18 =>
  (gnewA E G18 100 32).bind fun z24 =>
  (gpR E z24.2 3 3 (some t) 5 (some z24.1)).bind fun G26 =>
  (gnewA E G26 100 8).bind fun z32 =>
  (gpR E z32.2 3 3 (some t) 6 (some z32.1)).bind fun G34 =>
  (gnewA E G34 100 8).bind fun z40 =>
  (gpR E z40.2 3 3 (some t) 7 (some z40.1)).bind fun G42 =>
  (gnewA E G42 100 320).bind fun z49 =>
  (gpR E z49.2 3 3 (some t) 8 (some z49.1)).bind fun G51 =>
  (gnewA E G51 100 320).bind fun z58 =>
  (gpR E z58.2 3 3 (some t) 9 (some z58.1)).bind fun G60 =>
  (gnewA E G60 100 320).bind fun z67 =>
  (gpR E z67.2 3 3 (some t) 10 (some z67.1)).bind fun G69 =>
  (gnewA E G69 100 320).bind fun z76 =>
  (gpR E z76.2 3 3 (some t) 11 (some z76.1)).bind fun G78 =>
  (gnewA E G78 100 320).bind fun z85 =>
  (gpR E z85.2 3 3 (some t) 12 (some z85.1)).bind fun G87 =>
  some G87
def fX3_isAt (E : g_E) (t : Nat) (v1 : Int32) (v2 : Int32) (G : g_G) : Option (Int32 × g_G) :=
  (grR G 3 3 (some t) 3).bind fun x1 =>
  (gaR G 122 x1 v1).bind fun x5 =>
  if x5 = none then (
    if (0 : Int32) = 0 ∨ (0 : Int32) = 1 then some (0, G) else none)
  else (
    (grR G 3 3 (some t) 4).bind fun x10 =>
    (gaI G 102 x10 v1).bind fun x14 =>
    if ¬ x14 = 0 then (
      if (0 : Int32) = 0 ∨ (0 : Int32) = 1 then some (0, G) else none)
    else (
      (grR G 3 3 (some t) 3).bind fun x19 =>
      (gaR G 122 x19 v1).bind fun x23 =>
      (grI G 11 16 x23 0).bind fun x24 =>
      if ¬ x24 = v2 then (
        if (0 : Int32) = 0 ∨ (0 : Int32) = 1 then some (0, G) else none)
      else (
        if (1 : Int32) = 0 ∨ (1 : Int32) = 1 then some (1, G) else none)))
def fX3_isLike_b142 (E : g_E) : Nat → Nat → (Option Nat) → Int32 → g_G → Option (Int32 × g_G)
  | 0, _, _, _, _ => none
  | n + 1, t, v1, v2, G =>
    (grI G 3 3 (some t) 1).bind fun x144 =>
    if x144 ≤ v2 then (
      if (1 : Int32) = 0 ∨ (1 : Int32) = 1 then some (1, G) else none)
    else (
      (grR G 3 3 (some t) 8).bind fun x151 =>
      (gaI G 100 x151 v2).bind fun x155 =>
      (grR G 3 3 v1 8).bind fun x157 =>
      (gaI G 100 x157 v2).bind fun x161 =>
      if ¬ x155 = x161 then (
        if (0 : Int32) = 0 ∨ (0 : Int32) = 1 then some (0, G) else none)
      else (
        (grR G 3 3 (some t) 9).bind fun x166 =>
        (gaI G 100 x166 v2).bind fun x170 =>
        (grR G 3 3 v1 9).bind fun x172 =>
        (gaI G 100 x172 v2).bind fun x176 =>
        if ¬ x170 = x176 then (
          if (0 : Int32) = 0 ∨ (0 : Int32) = 1 then some (0, G) else none)
        else (
          (grR G 3 3 (some t) 10).bind fun x181 =>
          (gaI G 100 x181 v2).bind fun x185 =>
          (grR G 3 3 v1 10).bind fun x187 =>
          (gaI G 100 x187 v2).bind fun x191 =>
          if ¬ x185 = x191 then (
            if (0 : Int32) = 0 ∨ (0 : Int32) = 1 then some (0, G) else none)
          else (
            (grR G 3 3 (some t) 11).bind fun x196 =>
            (gaI G 100 x196 v2).bind fun x200 =>
            (grR G 3 3 v1 11).bind fun x202 =>
            (gaI G 100 x202 v2).bind fun x206 =>
            if x200 = x206 then (
              fX3_isLike_b142 E n t v1 (v2 + 1) G)
            else (
              if (0 : Int32) = 0 ∨ (0 : Int32) = 1 then some (0, G) else none)))))
def fX3_isLike_b98 (E : g_E) (k26 : Nat → (Option Nat) → Int32 → g_G → Option (Int32 × g_G)) : Nat → Nat → (Option Nat) → Int32 → Int32 → g_G → Option (Int32 × g_G)
  | 0, _, _, _, _, _ => none
  | n + 1, t, v1, v2, v3, G =>
    if (4 : Int32) ≤ v3 then (
      k26 t v1 (v2 + 1) G)
    else (
      (grR G 3 3 (some t) 5).bind fun x104 =>
      (gaI G 100 x104 ((4 * v2) + v3)).bind fun x112 =>
      (grR G 3 3 v1 5).bind fun x114 =>
      (gaI G 100 x114 ((4 * v2) + v3)).bind fun x122 =>
      if x112 = x122 then (
        fX3_isLike_b98 E k26 n t v1 v2 (v3 + 1) G)
      else (
        if (0 : Int32) = 0 ∨ (0 : Int32) = 1 then some (0, G) else none))
def fX3_isLike_b26 (E : g_E) : Nat → Nat → (Option Nat) → Int32 → g_G → Option (Int32 × g_G)
  | 0, _, _, _, _ => none
  | n + 1, t, v1, v2, G =>
    (grI G 3 3 (some t) 0).bind fun x28 =>
    if x28 ≤ v2 then (
      fX3_isLike_b142 E gFU t v1 0 G)
    else (
      (grR G 3 3 (some t) 3).bind fun x35 =>
      (gaR G 122 x35 v2).bind fun x39 =>
      (grR G 3 3 v1 3).bind fun x41 =>
      (gaR G 122 x41 v2).bind fun x45 =>
      if ¬ x39 = x45 then (
        if (0 : Int32) = 0 ∨ (0 : Int32) = 1 then some (0, G) else none)
      else (
        (grR G 3 3 (some t) 4).bind fun x50 =>
        (gaI G 102 x50 v2).bind fun x54 =>
        (grR G 3 3 v1 4).bind fun x56 =>
        (gaI G 102 x56 v2).bind fun x60 =>
        if ¬ x54 = x60 then (
          if (0 : Int32) = 0 ∨ (0 : Int32) = 1 then some (0, G) else none)
        else (
          (grR G 3 3 (some t) 6).bind fun x65 =>
          (gaI G 100 x65 v2).bind fun x69 =>
          (grR G 3 3 v1 6).bind fun x71 =>
          (gaI G 100 x71 v2).bind fun x75 =>
          if ¬ x69 = x75 then (
            if (0 : Int32) = 0 ∨ (0 : Int32) = 1 then some (0, G) else none)
          else (
            (grR G 3 3 (some t) 7).bind fun x80 =>
            (gaI G 100 x80 v2).bind fun x84 =>
            (grR G 3 3 v1 7).bind fun x86 =>
            (gaI G 100 x86 v2).bind fun x90 =>
            if x84 = x90 then (
              fX3_isLike_b98 E (fX3_isLike_b26 E n) gFU t v1 v2 0 G)
            else (
              if (0 : Int32) = 0 ∨ (0 : Int32) = 1 then some (0, G) else none)))))
def fX3_isLike (E : g_E) (t : Nat) (v1 : Option Nat) (G : g_G) : Option (Int32 × g_G) :=
  (grI G 3 3 (some t) 2).bind fun x1 =>
  (grI G 3 3 v1 2).bind fun x5 =>
  if ¬ x1 = x5 then (
    if (0 : Int32) = 0 ∨ (0 : Int32) = 1 then some (0, G) else none)
  else (
    (grI G 3 3 (some t) 1).bind fun x12 =>
    (grI G 3 3 v1 1).bind fun x16 =>
    if x12 = x16 then (
      fX3_isLike_b26 E gFU t v1 0 G)
    else (
      if (0 : Int32) = 0 ∨ (0 : Int32) = 1 then some (0, G) else none))
def fX3_put (E : g_E) (t : Nat) (v1 : Int32) (v2 : Option Nat) (v3 : Int32) (G : g_G) : Option (g_G) :=
  (grR G 3 3 (some t) 8).bind fun x1 =>
  (grR G 3 3 v2 8).bind fun x6 =>
  (gaI G 100 x6 v3).bind fun x10 =>
  (gsaI E G x1 v1 x10).bind fun G11 =>
  (grR G11 3 3 (some t) 9).bind fun x13 =>
  (grR G11 3 3 v2 9).bind fun x18 =>
  (gaI G11 100 x18 v3).bind fun x22 =>
  (gsaI E G11 x13 v1 x22).bind fun G23 =>
  (grR G23 3 3 (some t) 10).bind fun x25 =>
  (grR G23 3 3 v2 10).bind fun x30 =>
  (gaI G23 100 x30 v3).bind fun x34 =>
  (gsaI E G23 x25 v1 x34).bind fun G35 =>
  (grR G35 3 3 (some t) 11).bind fun x37 =>
  (grR G35 3 3 v2 11).bind fun x42 =>
  (gaI G35 100 x42 v3).bind fun x46 =>
  (gsaI E G35 x37 v1 x46).bind fun G47 =>
  (grR G47 3 3 (some t) 12).bind fun x49 =>
  (grR G47 3 3 v2 12).bind fun x54 =>
  (gaI G47 100 x54 v3).bind fun x58 =>
  (gsaI E G47 x49 v1 x58).bind fun G59 =>
  some G59
def fX3_sent_b43 (E : g_E) (k5 : Nat → Int32 → Int32 → Int32 → Int32 → g_G → Option (Int32 × g_G)) (t : Nat) (v1 : Int32) (v2 : Int32) (v3 : Int32) (v4 : Int32) (G : g_G) : Option (Int32 × g_G) :=
  k5 t v1 v2 v3 (v4 + 1) G
def fX3_sent_b5 (E : g_E) : Nat → Nat → Int32 → Int32 → Int32 → Int32 → g_G → Option (Int32 × g_G)
  | 0, _, _, _, _, _, _ => none
  | n + 1, t, v1, v2, v3, v4, G =>
    (grI G 3 3 (some t) 1).bind fun x8 =>
    if x8 ≤ v4 then (
      some (v3, G))
    else (
      (grR G 3 3 (some t) 8).bind fun x15 =>
      (gaI G 100 x15 v4).bind fun x20 =>
      if ¬ x20 = ((8 * v1) + v2) then (
        fX3_sent_b43 E (fX3_sent_b5 E n) t v1 v2 v3 v4 G)
      else (
        (grR G 3 3 (some t) 11).bind fun x31 =>
        (gaI G 100 x31 v4).bind fun x36 =>
        if x36 ≤ 0 then (
          fX3_sent_b43 E (fX3_sent_b5 E n) t v1 v2 v3 v4 G)
        else (
          fX3_sent_b43 E (fX3_sent_b5 E n) t v1 v2 (v3 + 1) v4 G)))
def fX3_sent (E : g_E) (t : Nat) (v1 : Int32) (v2 : Int32) (G : g_G) : Option (Int32 × g_G) :=
  fX3_sent_b5 E gFU t v1 v2 0 0 G
def fX3_takeOut_b12 (E : g_E) : Nat → Nat → Int32 → g_G → Option (g_G)
  | 0, _, _, _ => none
  | n + 1, t, v2, G =>
    (grI G 3 3 (some t) 1).bind fun x14 =>
    if x14 ≤ v2 then (
      some G)
    else (
      (gchk G 3 (some t)).bind fun b26 =>
      (fX3_put E b26 v2 (some t) (v2 + 1) G).bind fun z26 =>
      fX3_takeOut_b12 E n t (v2 + 1) z26)
def fX3_takeOut (E : g_E) (t : Nat) (v1 : Int32) (G : g_G) : Option (g_G) :=
  (grI G 3 3 (some t) 1).bind fun x2 =>
  (gpI E G 3 3 (some t) 1 (x2 - 1)).bind fun G7 =>
  fX3_takeOut_b12 E gFU t v1 G7
def fX4_anySteps_b30 (E : g_E) (k4 : Nat → Int32 → Int32 → g_G → Option (Int32 × g_G)) (t : Nat) (v2 : Int32) (s0 : Int32) (s1 : Int32) (G : g_G) : Option (Int32 × g_G) :=
  k4 t (s0 + s1) (v2 + 1) G
def fX4_anySteps_b4 (E : g_E) : Nat → Nat → Int32 → Int32 → g_G → Option (Int32 × g_G)
  | 0, _, _, _, _ => none
  | n + 1, t, v1, v2, G =>
    (grR G 4 4 (some t) 22).bind fun x6 =>
    (gaI G 100 x6 0).bind fun x10 =>
    if x10 ≤ v2 then (
      some (v1, G))
    else (
      (grR G 4 4 (some t) 24).bind fun x16 =>
      (gaI G 100 x16 v2).bind fun x20 =>
      if ¬ x20 = (4 : Int32) then (
        fX4_anySteps_b30 E (fX4_anySteps_b4 E n) t v2 v1 0 G)
      else (
        fX4_anySteps_b30 E (fX4_anySteps_b4 E n) t v2 v1 1 G))
def fX4_anySteps (E : g_E) (t : Nat) (G : g_G) : Option (Int32 × g_G) :=
  fX4_anySteps_b4 E gFU t 0 0 G
def fX4_byteAt (E : g_E) (t : Nat) (v1 : Int32) (G : g_G) : Option (Int32 × g_G) :=
  (grI G 4 4 (some t) 12).bind fun x2 =>
  if x2 ≤ v1 then (
    some ((-1), G))
  else (
    (grR G 4 4 (some t) 9).bind fun x9 =>
    (gaI G 100 x9 v1).bind fun x13 =>
    some (x13, G))
def fX4_compare_b2 (E : g_E) : Nat → (Option Nat) → Int32 → Int32 → Int32 → g_G → Option (Int32 × g_G)
  | 0, _, _, _, _, _ => none
  | n + 1, v0, v1, v2, v3, G =>
    if (11 : Int32) ≤ v3 then (
      some (0, G))
    else (
      (gaI G 100 v0 (v1 + v3)).bind fun x12 =>
      (gaI G 100 v0 (v2 + v3)).bind fun x17 =>
      if x12 = x17 then (
        fX4_compare_b2 E n v0 v1 v2 (v3 + 1) G)
      else (
        (gaI G 100 v0 (v1 + v3)).bind fun x25 =>
        (gaI G 100 v0 (v2 + v3)).bind fun x30 =>
        if x30 ≤ x25 then (
          some (1, G))
        else (
          some ((-1), G))))
def fX4_compare (E : g_E) (v0 : Option Nat) (v1 : Int32) (v2 : Int32) (G : g_G) : Option (Int32 × g_G) :=
  fX4_compare_b2 E gFU v0 v1 v2 0 G
def fX4_emit (E : g_E) (t : Nat) (v1 : Int32) (G : g_G) : Option (g_G) :=
  (grI G 4 4 (some t) 18).bind fun x1 =>
  if x1 = 0 then (
    (grR G 4 4 (some t) 23).bind fun x9 =>
    (grI G 4 4 (some t) 21).bind fun x16 =>
    (gsaI E G x9 (1080 + x16) v1).bind fun G21 =>
    (grI G21 4 4 (some t) 21).bind fun x24 =>
    (gpI E G21 4 4 (some t) 21 (x24 + 1)).bind fun G29 =>
    some G29)
  else (
    some G)
def fX4_fail (E : g_E) (t : Nat) (v1 : Int32) (G : g_G) : Option (Int32 × g_G) :=
  (gpI E G 4 4 (some t) 2 v1).bind fun G2 =>
  some (0, G2)
def fX4_farOf (E : g_E) (t : Nat) (v1 : Int32) (v2 : Int32) (G : g_G) : Option (Int32 × g_G) :=
  (grI G 4 4 (some t) 5).bind fun x1 =>
  (grI G 4 4 (some t) 6).bind fun x11 =>
  some ((x1 + ((if 0 ≤ (v1 - v2) then (v1 - v2) else 0 - (v1 - v2)) * x11)), G)
def fX4_fault (E : g_E) (t : Nat) (G : g_G) : Option (Int32 × g_G) :=
  (gpI E G 4 4 (some t) 2 0).bind fun G2 =>
  (grI G2 4 4 (some t) 20).bind fun x6 =>
  some (x6, G2)
def fX4_feed_b76 (E : g_E) (k23 : Nat → Int32 → Int32 → Int32 → Int32 → Int32 → Int32 → g_G → Option (Int32 × g_G)) (t : Nat) (v1 : Int32) (v2 : Int32) (v3 : Int32) (v4 : Int32) (v5 : Int32) (v6 : Int32) (s0 : Int32) (G : g_G) : Option (Int32 × g_G) :=
  (grR G 4 4 (some t) 9).bind fun x79 =>
  (grI G 4 4 (some t) 10).bind fun x83 =>
  if (4 : Int32) = 0 then none else
  (gsaI E G x79 x83 ((s0 >>> ((24 - (8 * (v6 - v6 / 4 * 4))) &&& 31)) &&& 255)).bind fun G103 =>
  (grI G103 4 4 (some t) 10).bind fun x106 =>
  (gpI E G103 4 4 (some t) 10 (x106 + 1)).bind fun G111 =>
  k23 t v1 v2 v3 v4 v5 (v6 + 1) G111
def fX4_feed_b23 (E : g_E) : Nat → Nat → Int32 → Int32 → Int32 → Int32 → Int32 → Int32 → g_G → Option (Int32 × g_G)
  | 0, _, _, _, _, _, _, _, _ => none
  | n + 1, t, v1, v2, v3, v4, v5, v6, G =>
    if (20 : Int32) ≤ v6 then (
      (grI G 4 4 (some t) 10).bind fun x121 =>
      some (x121, G))
    else (
      if (4 : Int32) ≤ v6 then (
        if (8 : Int32) ≤ v6 then (
          if (12 : Int32) ≤ v6 then (
            if (16 : Int32) ≤ v6 then (
              fX4_feed_b76 E (fX4_feed_b23 E n) t v1 v2 v3 v4 v5 v6 v5 G)
            else (
              fX4_feed_b76 E (fX4_feed_b23 E n) t v1 v2 v3 v4 v5 v6 v4 G))
          else (
            fX4_feed_b76 E (fX4_feed_b23 E n) t v1 v2 v3 v4 v5 v6 v3 G))
        else (
          fX4_feed_b76 E (fX4_feed_b23 E n) t v1 v2 v3 v4 v5 v6 v2 G))
      else (
        fX4_feed_b76 E (fX4_feed_b23 E n) t v1 v2 v3 v4 v5 v6 v1 G))
def fX4_feed (E : g_E) (t : Nat) (v1 : Int32) (v2 : Int32) (v3 : Int32) (v4 : Int32) (v5 : Int32) (G : g_G) : Option (Int32 × g_G) :=
  (gpI E G 4 4 (some t) 2 0).bind fun G2 =>
  (grI G2 4 4 (some t) 10).bind fun x6 =>
  if (x6 + 20) ≤ (700 : Int32) then (
    fX4_feed_b23 E gFU t v1 v2 v3 v4 v5 0 G2)
  else (
    some ((-1), G2))
def fX4_following_b7 (E : g_E) : Nat → Nat → Int32 → g_G → Option (Int32 × g_G)
  | 0, _, _, _ => none
  | n + 1, t, v2, G =>
    if (-2 : Int32) < v2 then (
      some (v2, G))
    else (
      (grR G 4 4 (some t) 29).bind fun x14 =>
      (gaI G 100 x14 ((-2) - v2)).bind fun x21 =>
      fX4_following_b7 E n t x21 G)
def fX4_following (E : g_E) (t : Nat) (v1 : Int32) (G : g_G) : Option (Int32 × g_G) :=
  (grR G 4 4 (some t) 29).bind fun x1 =>
  (gaI G 100 x1 v1).bind fun x5 =>
  fX4_following_b7 E gFU t x5 G
def fX4_hasPlay (E : g_E) (t : Nat) (G : g_G) : Option (Int32 × g_G) :=
  (grI G 4 4 (some t) 57).bind fun x1 =>
  (grI G 4 4 (some t) 3).bind fun x5 =>
  if ¬ x1 = x5 then (
    if (0 : Int32) = 0 ∨ (0 : Int32) = 1 then some (0, G) else none)
  else (
    (grI G 4 4 (some t) 58).bind fun x12 =>
    (grI G 4 4 (some t) 8).bind fun x16 =>
    if ¬ x12 = x16 then (
      if (0 : Int32) = 0 ∨ (0 : Int32) = 1 then some (0, G) else none)
    else (
      if (1 : Int32) = 0 ∨ (1 : Int32) = 1 then some (1, G) else none))
def fX4_init (E : g_E) (t : Nat) (G : g_G) : Option (g_G) :=
  (gnewA E G 123 11).bind fun z7 =>
  (gsaR E z7.2 123 (some z7.1) 0 (some (gA E 22))).bind fun G14 =>
  (gsaR E G14 123 (some z7.1) 1 (some (gA E 23))).bind fun G19 =>
  (gsaR E G19 123 (some z7.1) 2 (some (gA E 24))).bind fun G24 =>
  (gsaR E G24 123 (some z7.1) 3 (some (gA E 25))).bind fun G29 =>
  (gsaR E G29 123 (some z7.1) 4 (some (gA E 26))).bind fun G34 =>
  (gsaR E G34 123 (some z7.1) 5 (some (gA E 27))).bind fun G39 =>
  (gsaR E G39 123 (some z7.1) 6 (some (gA E 28))).bind fun G45 =>
  (gsaR E G45 123 (some z7.1) 7 (some (gA E 29))).bind fun G51 =>
  (gsaR E G51 123 (some z7.1) 8 (some (gA E 30))).bind fun G57 =>
  (gsaR E G57 123 (some z7.1) 9 (some (gA E 31))).bind fun G63 =>
  (gsaR E G63 123 (some z7.1) 10 (some (gA E 32))).bind fun G69 =>
  (gpR E G69 4 4 (some t) 0 (some z7.1)).bind fun G70 =>
  (gnewA E G70 123 7).bind fun z76 =>
  (gsaR E z76.2 123 (some z76.1) 0 (some (gA E 37))).bind fun G83 =>
  (gsaR E G83 123 (some z76.1) 1 (some (gA E 38))).bind fun G88 =>
  (gsaR E G88 123 (some z76.1) 2 (some (gA E 39))).bind fun G93 =>
  (gsaR E G93 123 (some z76.1) 3 (some (gA E 40))).bind fun G98 =>
  (gsaR E G98 123 (some z76.1) 4 (some (gA E 41))).bind fun G103 =>
  (gsaR E G103 123 (some z76.1) 5 (some (gA E 42))).bind fun G108 =>
  (gsaR E G108 123 (some z76.1) 6 (some (gA E 43))).bind fun G114 =>
  (gpR E G114 4 4 (some t) 1 (some z76.1)).bind fun G115 =>
  (gpI E G115 4 4 (some t) 3 2).bind fun G120 =>
  (gnewA E G120 100 700).bind fun z127 =>
  (gpR E z127.2 4 4 (some t) 9 (some z127.1)).bind fun G129 =>
  (gpI E G129 4 4 (some t) 20 (-1)).bind fun G134 =>
  (gnewA E G134 100 2).bind fun z139 =>
  (gpR E z139.2 4 4 (some t) 22 (some z139.1)).bind fun G141 =>
  (gnewA E G141 100 2160).bind fun z148 =>
  (gpR E z148.2 4 4 (some t) 23 (some z148.1)).bind fun G150 =>
  (gnewA E G150 100 80).bind fun z156 =>
  (gpR E z156.2 4 4 (some t) 24 (some z156.1)).bind fun G158 =>
  (gnewA E G158 100 240).bind fun z165 =>
  (gpR E z165.2 4 4 (some t) 25 (some z165.1)).bind fun G167 =>
  (gnewA E G167 100 240).bind fun z174 =>
  (gpR E z174.2 4 4 (some t) 26 (some z174.1)).bind fun G176 =>
  (gnewA E G176 100 80).bind fun z182 =>
  (gpR E z182.2 4 4 (some t) 27 (some z182.1)).bind fun G184 =>
  (gnewA E G184 100 80).bind fun z190 =>
  (gpR E z190.2 4 4 (some t) 28 (some z190.1)).bind fun G192 =>
  (gnewA E G192 100 80).bind fun z198 =>
  (gpR E z198.2 4 4 (some t) 29 (some z198.1)).bind fun G200 =>
  (gnewA E G200 100 80).bind fun z206 =>
  (gpR E z206.2 4 4 (some t) 30 (some z206.1)).bind fun G208 =>
  (gnewA E G208 100 80).bind fun z214 =>
  (gpR E z214.2 4 4 (some t) 31 (some z214.1)).bind fun G216 =>
  (gnewA E G216 102 40).bind fun z222 =>
  (gpR E z222.2 4 4 (some t) 32 (some z222.1)).bind fun G224 =>
  (gnewA E G224 100 1985).bind fun z231 =>
  (gpR E z231.2 4 4 (some t) 33 (some z231.1)).bind fun G233 =>
  (gnewA E G233 100 360).bind fun z240 =>
  (gpR E z240.2 4 4 (some t) 34 (some z240.1)).bind fun G242 =>
  (gpI E G242 4 4 (some t) 35 (-1)).bind fun G247 =>
  (gnewA E G247 100 8).bind fun z253 =>
  (gpR E z253.2 4 4 (some t) 36 (some z253.1)).bind fun G255 =>
  (gnewA E G255 100 8).bind fun z261 =>
  (gpR E z261.2 4 4 (some t) 37 (some z261.1)).bind fun G263 =>
  (gnewA E G263 100 8).bind fun z269 =>
  (gpR E z269.2 4 4 (some t) 38 (some z269.1)).bind fun G271 =>
  (gnewA E G271 100 321).bind fun z278 =>
  (gpR E z278.2 4 4 (some t) 39 (some z278.1)).bind fun G280 =>
  (gnewA E G280 100 397000).bind fun z286 =>
  (gpR E z286.2 4 4 (some t) 43 (some z286.1)).bind fun G288 =>
  (gnewA E G288 100 201).bind fun z295 =>
  (gpR E z295.2 4 4 (some t) 44 (some z295.1)).bind fun G297 =>
  (gnewA E G297 102 201).bind fun z304 =>
  (gpR E z304.2 4 4 (some t) 45 (some z304.1)).bind fun G306 =>
  (gpI E G306 4 4 (some t) 47 (-1)).bind fun G311 =>
  (gnewA E G311 100 320).bind fun z318 =>
  (gpR E z318.2 4 4 (some t) 49 (some z318.1)).bind fun G320 =>
  (gnewA E G320 100 2211).bind fun z327 =>
  (gpR E z327.2 4 4 (some t) 50 (some z327.1)).bind fun G329 =>
  (gnewA E G329 100 320).bind fun z336 =>
  (gpR E z336.2 4 4 (some t) 54 (some z336.1)).bind fun G338 =>
  (gnewA E G338 102 40).bind fun z344 =>
  (gpR E z344.2 4 4 (some t) 55 (some z344.1)).bind fun G346 =>
  (gpI E G346 4 4 (some t) 56 (-1)).bind fun G351 =>
  (gpI E G351 4 4 (some t) 57 (-1)).bind fun G356 =>
  (gnewA E G356 100 1985).bind fun z363 =>
  (gpR E z363.2 4 4 (some t) 61 (some z363.1)).bind fun G365 =>
  (gnewA E G365 100 320).bind fun z372 =>
  (gpR E z372.2 4 4 (some t) 62 (some z372.1)).bind fun G374 =>
  (gnewA E G374 100 8).bind fun z380 =>
  (gpR E z380.2 4 4 (some t) 63 (some z380.1)).bind fun G382 =>
  (gnewA E G382 100 8).bind fun z388 =>
  (gpR E z388.2 4 4 (some t) 64 (some z388.1)).bind fun G390 =>
  (gnewA E G390 100 8).bind fun z396 =>
  (gpR E z396.2 4 4 (some t) 65 (some z396.1)).bind fun G398 =>
  (gnewA E G398 100 8).bind fun z404 =>
  (gpR E z404.2 4 4 (some t) 66 (some z404.1)).bind fun G406 =>
  (gnewA E G406 100 8).bind fun z412 =>
  (gpR E z412.2 4 4 (some t) 67 (some z412.1)).bind fun G414 =>
  (gnewA E G414 100 320).bind fun z421 =>
  (gpR E z421.2 4 4 (some t) 69 (some z421.1)).bind fun G423 =>
  some G423
def fX4_isDigit (E : g_E) (v0 : Int32) (G : g_G) : Option (Int32 × g_G) :=
  if v0 < (48 : Int32) then (
    if (0 : Int32) = 0 ∨ (0 : Int32) = 1 then some (0, G) else none)
  else (
    if (57 : Int32) < v0 then (
      if (0 : Int32) = 0 ∨ (0 : Int32) = 1 then some (0, G) else none)
    else (
      if (1 : Int32) = 0 ∨ (1 : Int32) = 1 then some (1, G) else none))
def fX4_isIn (E : g_E) (v0 : Int32) (v1 : Int32) (v2 : Int32) (G : g_G) : Option (Int32 × g_G) :=
  if v0 < v1 then (
    if (0 : Int32) = 0 ∨ (0 : Int32) = 1 then some (0, G) else none)
  else (
    if v2 < v0 then (
      if (0 : Int32) = 0 ∨ (0 : Int32) = 1 then some (0, G) else none)
    else (
      if (1 : Int32) = 0 ∨ (1 : Int32) = 1 then some (1, G) else none))
def fX4_isLetter (E : g_E) (v0 : Int32) (G : g_G) : Option (Int32 × g_G) :=
  if v0 < (97 : Int32) then (
    if (0 : Int32) = 0 ∨ (0 : Int32) = 1 then some (0, G) else none)
  else (
    if (122 : Int32) < v0 then (
      if (0 : Int32) = 0 ∨ (0 : Int32) = 1 then some (0, G) else none)
    else (
      if (1 : Int32) = 0 ∨ (1 : Int32) = 1 then some (1, G) else none))
def fX4_isSign (E : g_E) (t : Nat) (v1 : Int32) (G : g_G) : Option (Int32 × g_G) :=
  (grI G 4 4 (some t) 18).bind fun x1 =>
  if ¬ x1 = 0 then (
    if (0 : Int32) = 0 ∨ (0 : Int32) = 1 then some (0, G) else none)
  else (
    (grI G 4 4 (some t) 13).bind fun x8 =>
    if ¬ x8 = (3 : Int32) then (
      if (0 : Int32) = 0 ∨ (0 : Int32) = 1 then some (0, G) else none)
    else (
      (grI G 4 4 (some t) 14).bind fun x16 =>
      if ¬ x16 = v1 then (
        if (0 : Int32) = 0 ∨ (0 : Int32) = 1 then some (0, G) else none)
      else (
        if (1 : Int32) = 0 ∨ (1 : Int32) = 1 then some (1, G) else none)))
def fX4_isStep (E : g_E) (t : Nat) (v1 : Int32) (G : g_G) : Option (Int32 × g_G) :=
  (grR G 4 4 (some t) 22).bind fun x3 =>
  (gaI G 100 x3 0).bind fun x7 =>
  (fX4_isIn E v1 0 (x7 - 1) G).bind fun z10 =>
  if z10.1 = 0 ∨ z10.1 = 1 then some (z10.1, z10.2) else none
def fX4_own (E : g_E) (t : Nat) (v1 : Int32) (v2 : Int32) (G : g_G) : Option (Int32 × g_G) :=
  (grR G 4 4 (some t) 33).bind fun x1 =>
  (gaI G 100 x1 ((8 * v1) + v2)).bind fun x10 =>
  some (x10, G)
def fX4_put (E : g_E) (t : Nat) (v1 : Int32) (v2 : Int32) (v3 : Int32) (G : g_G) : Option (g_G) :=
  (grR G 4 4 (some t) 33).bind fun x1 =>
  (gsaI E G x1 ((8 * v1) + v2) v3).bind fun G11 =>
  some G11
def fX4_refuse (E : g_E) (t : Nat) (v1 : Int32) (G : g_G) : Option (Int32 × g_G) :=
  (gpI E G 4 4 (some t) 2 v1).bind fun G2 =>
  if (0 : Int32) = 0 ∨ (0 : Int32) = 1 then some (0, G2) else none
def fX4_ring_b31 (E : g_E) (t : Nat) (G : g_G) : Option (Int32 × g_G) :=
  (gchk G 4 (some t)).bind fun b33 =>
  (fX4_fail E b33 1 G).bind fun z33 =>
  some (z33.1, z33.2)
def fX4_ring_b37 (E : g_E) (t : Nat) (v1 : Int32) (G : g_G) : Option (Int32 × g_G) :=
  if ¬ v1 = (-1 : Int32) then (
    (grR G 4 4 (some t) 63).bind fun x50 =>
    (gaI G 100 x50 v1).bind fun x54 =>
    some (x54, G))
  else (
    (grI G 4 4 (some t) 60).bind fun x43 =>
    some (x43, G))
def fX4_ring (E : g_E) (t : Nat) (v1 : Int32) (G : g_G) : Option (Int32 × g_G) :=
  (gpI E G 4 4 (some t) 2 0).bind fun G2 =>
  (gchk G2 4 (some t)).bind fun b6 =>
  (fX4_hasPlay E b6 G2).bind fun z6 =>
  if z6.1 = 0 then (
    fX4_ring_b31 E t z6.2)
  else (
    if v1 = (-1 : Int32) then (
      fX4_ring_b37 E t v1 z6.2)
    else (
      (grI z6.2 4 4 (some t) 60).bind fun x20 =>
      (fX4_isIn E v1 0 (x20 - 1) z6.2).bind fun z25 =>
      if ¬ z25.1 = 0 then (
        fX4_ring_b37 E t v1 z25.2)
      else (
        fX4_ring_b31 E t z25.2)))
def fX4_step (E : g_E) (t : Nat) (v1 : Int32) (G : g_G) : Option (Int32 × g_G) :=
  (gpI E G 4 4 (some t) 2 0).bind fun G2 =>
  (gchk G2 4 (some t)).bind fun b7 =>
  (fX4_isStep E b7 v1 G2).bind fun z7 =>
  if z7.1 = 0 then (
    (gchk z7.2 4 (some t)).bind fun b24 =>
    (fX4_fail E b24 1 z7.2).bind fun z24 =>
    some (z24.1, z24.2))
  else (
    (grR z7.2 4 4 (some t) 24).bind fun x14 =>
    (gaI z7.2 100 x14 v1).bind fun x18 =>
    some (x18, z7.2))
def fX4_stepOn_b279 (E : g_E) (t : Nat) (G : g_G) : Option (g_G) :=
  (grI G 4 4 (some t) 11).bind fun x281 =>
  (gpI E G 4 4 (some t) 17 x281).bind fun G284 =>
  some G284
def fX4_stepOn_b271 (E : g_E) (t : Nat) (v1 : Int32) (s0 : Option Nat) (s1 : Int32) (G : g_G) : Option (g_G) :=
  (gpI E G 4 4 s0 13 s1).bind fun G271 =>
  (gpI E G271 4 4 (some t) 14 v1).bind fun G276 =>
  fX4_stepOn_b279 E t G276
def fX4_stepOn_b260 (E : g_E) (t : Nat) (v1 : Int32) (s0 : Int32) (G : g_G) : Option (g_G) :=
  if s0 = 0 then (
    fX4_stepOn_b271 E t v1 (some t) 4 G)
  else (
    fX4_stepOn_b271 E t v1 (some t) 3 G)
def fX4_stepOn_b255 (E : g_E) (t : Nat) (v1 : Int32) (G : g_G) : Option (g_G) :=
  fX4_stepOn_b260 E t v1 1 G
def fX4_stepOn_b128 (E : g_E) : Nat → Nat → g_G → Option (g_G)
  | 0, _, _ => none
  | n + 1, t, G =>
    (grI G 4 4 (some t) 11).bind fun x130 =>
    (gchk G 4 (some t)).bind fun b133 =>
    (fX4_byteAt E b133 x130 G).bind fun z133 =>
    (fX4_isDigit E z133.1 z133.2).bind fun z136 =>
    if z136.1 = 0 then (
      (gpI E z136.2 4 4 (some t) 13 2).bind fun G185 =>
      fX4_stepOn_b279 E t G185)
    else (
      (grI z136.2 4 4 (some t) 15).bind fun x148 =>
      (grI z136.2 4 4 (some t) 11).bind fun x154 =>
      (gchk z136.2 4 (some t)).bind fun b157 =>
      (fX4_byteAt E b157 x154 z136.2).bind fun z157 =>
      (gpI E z157.2 4 4 (some t) 15 (if (((10 * x148) + z157.1) - 48) < 100000 then (((10 * x148) + z157.1) - 48) else 100000)).bind fun G167 =>
      (grI G167 4 4 (some t) 11).bind fun x172 =>
      (gpI E G167 4 4 (some t) 11 (x172 + 1)).bind fun G177 =>
      fX4_stepOn_b128 E n t G177)
def fX4_stepOn_b81 (E : g_E) : Nat → Nat → g_G → Option (g_G)
  | 0, _, _ => none
  | n + 1, t, G =>
    (grI G 4 4 (some t) 11).bind fun x83 =>
    (gchk G 4 (some t)).bind fun b86 =>
    (fX4_byteAt E b86 x83 G).bind fun z86 =>
    (fX4_isLetter E z86.1 z86.2).bind fun z89 =>
    if z89.1 = 0 then (
      (gpI E z89.2 4 4 (some t) 13 1).bind fun G110 =>
      fX4_stepOn_b279 E t G110)
    else (
      (grI z89.2 4 4 (some t) 11).bind fun x97 =>
      (gpI E z89.2 4 4 (some t) 11 (x97 + 1)).bind fun G102 =>
      fX4_stepOn_b81 E n t G102)
def fX4_stepOn_b26 (E : g_E) (k0 : Nat → g_G → Option (g_G)) (t : Nat) (G : g_G) : Option (g_G) :=
  (grI G 4 4 (some t) 11).bind fun x28 =>
  (gpI E G 4 4 (some t) 11 (x28 + 1)).bind fun G33 =>
  k0 t G33
def fX4_stepOn_b0 (E : g_E) : Nat → Nat → g_G → Option (g_G)
  | 0, _, _ => none
  | n + 1, t, G =>
    (grI G 4 4 (some t) 11).bind fun x2 =>
    (gchk G 4 (some t)).bind fun b5 =>
    (fX4_byteAt E b5 x2 G).bind fun z5 =>
    if z5.1 = (32 : Int32) then (
      fX4_stepOn_b26 E (fX4_stepOn_b0 E n) t z5.2)
    else (
      (grI z5.2 4 4 (some t) 11).bind fun x15 =>
      (gchk z5.2 4 (some t)).bind fun b18 =>
      (fX4_byteAt E b18 x15 z5.2).bind fun z18 =>
      if ¬ z18.1 = (10 : Int32) then (
        (grI z18.2 4 4 (some t) 11).bind fun x41 =>
        (gpI E z18.2 4 4 (some t) 16 x41).bind fun G44 =>
        (gpI E G44 4 4 (some t) 14 0).bind fun G49 =>
        (grI G49 4 4 (some t) 11).bind fun x54 =>
        (gchk G49 4 (some t)).bind fun b57 =>
        (fX4_byteAt E b57 x54 G49).bind fun z57 =>
        if ¬ z57.1 = (-1 : Int32) then (
          (fX4_isLetter E z57.1 z57.2).bind fun z75 =>
          if z75.1 = 0 then (
            (fX4_isDigit E z57.1 z75.2).bind fun z117 =>
            if z117.1 = 0 then (
              (grI z117.2 4 4 (some t) 11).bind fun x193 =>
              (gpI E z117.2 4 4 (some t) 11 (x193 + 1)).bind fun G198 =>
              if z57.1 = (59 : Int32) then (
                fX4_stepOn_b255 E t z57.1 G198)
              else (
                if z57.1 = (40 : Int32) then (
                  fX4_stepOn_b255 E t z57.1 G198)
                else (
                  if z57.1 = (41 : Int32) then (
                    fX4_stepOn_b255 E t z57.1 G198)
                  else (
                    if z57.1 = (43 : Int32) then (
                      fX4_stepOn_b255 E t z57.1 G198)
                    else (
                      if z57.1 = (45 : Int32) then (
                        fX4_stepOn_b255 E t z57.1 G198)
                      else (
                        if z57.1 = (42 : Int32) then (
                          fX4_stepOn_b255 E t z57.1 G198)
                        else (
                          if z57.1 = (47 : Int32) then (
                            fX4_stepOn_b255 E t z57.1 G198)
                          else (
                            if z57.1 = (60 : Int32) then (
                              fX4_stepOn_b255 E t z57.1 G198)
                            else (
                              if ¬ z57.1 = (61 : Int32) then (
                                fX4_stepOn_b260 E t z57.1 0 G198)
                              else (
                                fX4_stepOn_b255 E t z57.1 G198))))))))))
            else (
              (gpI E z117.2 4 4 (some t) 15 0).bind fun G125 =>
              fX4_stepOn_b128 E gFU t G125))
          else (
            fX4_stepOn_b81 E gFU t z75.2))
        else (
          (gpI E z57.2 4 4 (some t) 13 0).bind fun G68 =>
          fX4_stepOn_b279 E t G68))
      else (
        fX4_stepOn_b26 E (fX4_stepOn_b0 E n) t z18.2))
def fX4_stepOn (E : g_E) (t : Nat) (G : g_G) : Option (g_G) :=
  fX4_stepOn_b0 E gFU t G
def fX4_tellRing_b179 (E : g_E) : Nat → Nat → Int32 → Int32 → g_G → Option (g_G)
  | 0, _, _, _, _ => none
  | n + 1, t, v3, v4, G =>
    (grI G 4 4 (some t) 60).bind fun x182 =>
    if x182 ≤ v4 then (
      some G)
    else (
      (grR G 4 4 (some t) 63).bind fun x189 =>
      (grR G 4 4 (some t) 63).bind fun x195 =>
      (gaI G 100 x195 (v3 + v4)).bind fun x202 =>
      (gsaI E G x189 v4 x202).bind fun G203 =>
      fX4_tellRing_b179 E n t v3 (v4 + 1) G203)
def fX4_tellRing_b134 (E : g_E) (t : Nat) (v1 : Int32) (v2 : Int32) (G : g_G) : Option (g_G) :=
  (grI G 4 4 (some t) 3).bind fun x136 =>
  if x136 ≤ v1 then (
    some G)
  else (
    (gchk G 4 (some t)).bind fun b145 =>
    (fX4_own E b145 v1 0 G).bind fun z145 =>
    if z145.1 = (-1 : Int32) then (
      some z145.2)
    else (
      (grR z145.2 4 4 (some t) 64).bind fun x153 =>
      (gaI z145.2 100 x153 v1).bind fun x157 =>
      if ¬ x157 = 0 then (
        (grR z145.2 4 4 (some t) 65).bind fun x163 =>
        (gaI z145.2 100 x163 v1).bind fun x167 =>
        (gpI E z145.2 4 4 (some t) 60 (v2 - x167)).bind fun G173 =>
        fX4_tellRing_b179 E gFU t x167 0 G173)
      else (
        some z145.2)))
def fX4_tellRing_b110 (E : g_E) (k54 : Nat → Int32 → Int32 → g_G → Option (g_G)) : Nat → Nat → Int32 → Int32 → Int32 → g_G → Option (g_G)
  | 0, _, _, _, _, _ => none
  | n + 1, t, v1, v2, v3, G =>
    (grR G 4 4 (some t) 64).bind fun x111 =>
    (gaI G 100 x111 v1).bind fun x115 =>
    if ¬ ((x115 >>> (v3 &&& 31)) &&& 1) = 0 then (
      k54 t v3 v2 G)
    else (
      fX4_tellRing_b110 E k54 n t v1 v2 (v3 + 1) G)
def fX4_tellRing_b54 (E : g_E) : Nat → Nat → Int32 → Int32 → g_G → Option (g_G)
  | 0, _, _, _, _ => none
  | n + 1, t, v1, v2, G =>
    (grI G 4 4 (some t) 3).bind fun x56 =>
    if x56 ≤ v1 then (
      fX4_tellRing_b134 E t v1 v2 G)
    else (
      (gchk G 4 (some t)).bind fun b65 =>
      (fX4_own E b65 v1 0 G).bind fun z65 =>
      if z65.1 = (-1 : Int32) then (
        fX4_tellRing_b134 E t v1 v2 z65.2)
      else (
        (grR z65.2 4 4 (some t) 64).bind fun x73 =>
        (gaI z65.2 100 x73 v1).bind fun x77 =>
        if x77 = 0 then (
          fX4_tellRing_b134 E t v1 v2 z65.2)
        else (
          (grR z65.2 4 4 (some t) 65).bind fun x82 =>
          (gaI z65.2 100 x82 v1).bind fun x86 =>
          if ¬ x86 = (-1 : Int32) then (
            fX4_tellRing_b134 E t v1 v2 z65.2)
          else (
            (grR z65.2 4 4 (some t) 65).bind fun x92 =>
            (gsaI E z65.2 x92 v1 v2).bind fun G97 =>
            (grR G97 4 4 (some t) 63).bind fun x99 =>
            (gsaI E G97 x99 v2 v1).bind fun G104 =>
            fX4_tellRing_b110 E (fX4_tellRing_b54 E n) gFU t v1 (v2 + 1) 0 G104))))
def fX4_tellRing_b33 (E : g_E) : Nat → Nat → Int32 → Int32 → g_G → Option (g_G)
  | 0, _, _, _, _ => none
  | n + 1, t, v1, v2, G =>
    if (8 : Int32) ≤ v2 then (
      fX4_tellRing_b54 E gFU t v1 0 G)
    else (
      (grR G 4 4 (some t) 65).bind fun x40 =>
      (gsaI E G x40 v2 (-1)).bind fun G45 =>
      fX4_tellRing_b33 E n t v1 (v2 + 1) G45)
def fX4_tellRing_b31 (E : g_E) (t : Nat) (v1 : Int32) (G : g_G) : Option (g_G) :=
  fX4_tellRing_b33 E gFU t v1 0 G
def fX4_tellRing_b7 (E : g_E) : Nat → Nat → Int32 → g_G → Option (g_G)
  | 0, _, _, _ => none
  | n + 1, t, v1, G =>
    (grI G 4 4 (some t) 3).bind fun x9 =>
    if x9 ≤ v1 then (
      fX4_tellRing_b31 E t v1 G)
    else (
      (gchk G 4 (some t)).bind fun b18 =>
      (fX4_own E b18 v1 0 G).bind fun z18 =>
      if ¬ z18.1 = (-1 : Int32) then (
        fX4_tellRing_b31 E t v1 z18.2)
      else (
        fX4_tellRing_b7 E n t (v1 + 1) z18.2))
def fX4_tellRing (E : g_E) (t : Nat) (G : g_G) : Option (g_G) :=
  (gpI E G 4 4 (some t) 60 0).bind fun G2 =>
  fX4_tellRing_b7 E gFU t 0 G2
def fX4_thrown (E : g_E) (t : Nat) (G : g_G) : Option (Int32 × g_G) :=
  (grI G 4 4 (some t) 2).bind fun x1 =>
  some (x1, G)
def fX4_two (E : g_E) (v0 : Int32) (v1 : Int32) (v2 : Int32) (G : g_G) : Option (Int32 × g_G) :=
  if v0 = 1 then (
    some ((v1 + v2), G))
  else
  if v0 = 2 then (
    some ((v1 - v2), G))
  else
  if v0 = 3 then (
    some ((v1 * v2), G))
  else
  if v0 = 4 then (
    if ¬ v2 = 0 then (
      if v2 = 0 then none else
      some ((v1 / v2), G))
    else (
      some (0, G)))
  else
  if v0 = 5 then (
    if v2 ≤ v1 then (
      some (0, G))
    else (
      some (1, G)))
  else
  (
    if ¬ v1 = v2 then (
      some (0, G))
    else (
      some (1, G)))
def fX4_upTo (E : g_E) (t : Nat) (v1 : Int32) (v2 : Int32) (G : g_G) : Option (g_G) :=
  (grR G 4 4 (some t) 36).bind fun x3 =>
  (gaI G 100 x3 v1).bind fun x7 =>
  (grR G 4 4 (some t) 37).bind fun x14 =>
  (gaI G 100 x14 v1).bind fun x19 =>
  (gsaI E G x14 v1 (x19 + (if 0 < (v2 - x7) then (v2 - x7) else 0))).bind fun G22 =>
  (grR G22 4 4 (some t) 36).bind fun x24 =>
  (gaI G22 100 x24 v1).bind fun x29 =>
  (gsaI E G22 x24 v1 (x29 + (if 0 < (v2 - x7) then (v2 - x7) else 0))).bind fun G32 =>
  some G32
def fX4_used (E : g_E) (t : Nat) (v1 : Int32) (G : g_G) : Option (Int32 × g_G) :=
  (grR G 4 4 (some t) 43).bind fun x5 =>
  (gaI G 100 x5 ((1985 * v1) + 64)).bind fun x16 =>
  some ((65 + (6 * x16)), G)
def fX4_valueOf (E : g_E) (t : Nat) (v1 : Int32) (v2 : Int32) (G : g_G) : Option (Int32 × g_G) :=
  if (4 : Int32) ≤ v2 then (
    if ¬ v2 = (4 : Int32) then (
      if ¬ v2 = (5 : Int32) then (
        (gchk G 4 (some t)).bind fun b41 =>
        (fX4_own E b41 v1 6 G).bind fun z41 =>
        some (z41.1, z41.2))
      else (
        (grI G 4 4 (some t) 3).bind fun x31 =>
        some (x31, G)))
    else (
      some (v1, G)))
  else (
    (gchk G 4 (some t)).bind fun b10 =>
    (fX4_own E b10 v1 (2 + v2) G).bind fun z10 =>
    some (z10.1, z10.2))
def fX4_wordAt (E : g_E) (v0 : Int32) (G : g_G) : Option (Int32 × g_G) :=
  some ((65 + (6 * v0)), G)
def fX4_words (E : g_E) (t : Nat) (G : g_G) : Option (Int32 × g_G) :=
  (grR G 4 4 (some t) 33).bind fun x1 =>
  (gaI G 100 x1 64).bind fun x6 =>
  some (x6, G)
def fX4_world_b60 (E : g_E) (t : Nat) (v1 : Int32) (v2 : Int32) (v3 : Int32) (v4 : Int32) (G : g_G) : Option (Int32 × g_G) :=
  (gpI E G 4 4 (some t) 3 v1).bind fun G62 =>
  (gpI E G62 4 4 (some t) 4 v2).bind fun G67 =>
  (gpI E G67 4 4 (some t) 5 v3).bind fun G72 =>
  (gpI E G72 4 4 (some t) 6 v4).bind fun G78 =>
  (grI G78 4 4 (some t) 7).bind fun x83 =>
  (gpI E G78 4 4 (some t) 7 (x83 + 1)).bind fun G88 =>
  if (1 : Int32) = 0 ∨ (1 : Int32) = 1 then some (1, G88) else none
def fX4_world (E : g_E) (t : Nat) (v1 : Int32) (v2 : Int32) (v3 : Int32) (v4 : Int32) (G : g_G) : Option (Int32 × g_G) :=
  (gpI E G 4 4 (some t) 2 0).bind fun G2 =>
  (fX4_isIn E v1 2 8 G2).bind fun z9 =>
  if z9.1 = 0 then (
    if (0 : Int32) = 0 ∨ (0 : Int32) = 1 then some (0, z9.2) else none)
  else (
    (fX4_isIn E v2 0 3 z9.2).bind fun z18 =>
    if z18.1 = 0 then (
      if (0 : Int32) = 0 ∨ (0 : Int32) = 1 then some (0, z18.2) else none)
    else (
      (fX4_isIn E v3 0 99 z18.2).bind fun z28 =>
      if z28.1 = 0 then (
        if (0 : Int32) = 0 ∨ (0 : Int32) = 1 then some (0, z28.2) else none)
      else (
        (fX4_isIn E v4 0 99 z28.2).bind fun z39 =>
        if ¬ z39.1 = 0 then (
          (grI z39.2 4 4 (some t) 3).bind fun x49 =>
          if v1 = x49 then (
            fX4_world_b60 E t v1 v2 v3 v4 z39.2)
          else (
            (gpI E z39.2 4 4 (some t) 57 (-1)).bind fun G57 =>
            fX4_world_b60 E t v1 v2 v3 v4 G57))
        else (
          if (0 : Int32) = 0 ∨ (0 : Int32) = 1 then some (0, z39.2) else none))))
def fX4_wrong (E : g_E) (t : Nat) (v1 : Int32) (G : g_G) : Option (g_G) :=
  (grI G 4 4 (some t) 18).bind fun x1 =>
  if x1 = 0 then (
    (gpI E G 4 4 (some t) 18 v1).bind fun G10 =>
    (grI G10 4 4 (some t) 16).bind fun x15 =>
    (gpI E G10 4 4 (some t) 19 x15).bind fun G18 =>
    some G18)
  else (
    some G)
def fX5_byteAt (E : g_E) (t : Nat) (v1 : Int32) (G : g_G) : Option (Int32 × g_G) :=
  (grI G 5 5 (some t) 1).bind fun x2 =>
  if x2 ≤ v1 then (
    some (0, G))
  else (
    (grR G 5 5 (some t) 0).bind fun x9 =>
    (gaI G 101 x9 v1).bind fun x13 =>
    some ((x13 &&& 255), G))
def fX5_is_b20 (E : g_E) (t : Nat) (v1 : Option Nat) (G : g_G) : Option (Int32 × g_G) :=
  (grR G 5 5 (some t) 9).bind fun x21 =>
  (gchk G 19 x21).bind fun b25 =>
  (fJ9_equals E b25 v1 G).bind fun z25 =>
  if z25.1 = 0 then (
    if (0 : Int32) = 0 ∨ (0 : Int32) = 1 then some (0, z25.2) else none)
  else (
    if (1 : Int32) = 0 ∨ (1 : Int32) = 1 then some (1, z25.2) else none)
def fX5_is (E : g_E) (t : Nat) (v1 : Option Nat) (G : g_G) : Option (Int32 × g_G) :=
  (grR G 5 5 (some t) 8).bind fun x1 =>
  if x1 = (some (gA E 1)) then (
    fX5_is_b20 E t v1 G)
  else (
    (grR G 5 5 (some t) 8).bind fun x11 =>
    if ¬ x11 = (some (gA E 3)) then (
      if (0 : Int32) = 0 ∨ (0 : Int32) = 1 then some (0, G) else none)
    else (
      fX5_is_b20 E t v1 G))
def fX5_isDigit (E : g_E) (v0 : Int32) (G : g_G) : Option (Int32 × g_G) :=
  if v0 < (48 : Int32) then (
    if (0 : Int32) = 0 ∨ (0 : Int32) = 1 then some (0, G) else none)
  else (
    if (57 : Int32) < v0 then (
      if (0 : Int32) = 0 ∨ (0 : Int32) = 1 then some (0, G) else none)
    else (
      if (1 : Int32) = 0 ∨ (1 : Int32) = 1 then some (1, G) else none))
def fX5_isLetter (E : g_E) (v0 : Int32) (G : g_G) : Option (Int32 × g_G) :=
  if v0 < (97 : Int32) then (
    if (0 : Int32) = 0 ∨ (0 : Int32) = 1 then some (0, G) else none)
  else (
    if (122 : Int32) < v0 then (
      if (0 : Int32) = 0 ∨ (0 : Int32) = 1 then some (0, G) else none)
    else (
      if (1 : Int32) = 0 ∨ (1 : Int32) = 1 then some (1, G) else none))
def fX5_links_b42 (E : g_E) (k2 : (Option Nat) → (Option Nat) → Int32 → g_G → Option (Option Nat × g_G)) (v0 : Option Nat) (v1 : Option Nat) (v2 : Int32) (s0 : Option Nat) (s1 : Option Nat) (G : g_G) : Option (Option Nat × g_G) :=
  (gpR E G 11 16 s0 2 s1).bind fun G42 =>
  k2 v0 v1 (v2 + 1) G42
def fX5_links_b2 (E : g_E) : Nat → (Option Nat) → (Option Nat) → Int32 → g_G → Option (Option Nat × g_G)
  | 0, _, _, _, _ => none
  | n + 1, v0, v1, v2, G =>
    (gchk G 17 v0).bind fun b4 =>
    (fJ2_size E b4 G).bind fun z4 =>
    if z4.1 ≤ v2 then (
      (gchk z4.2 17 v0).bind fun b52 =>
      (fJ2_isEmpty E b52 z4.2).bind fun z52 =>
      if z52.1 = 0 then (
        (gchk z52.2 17 v0).bind fun b64 =>
        (fJ2_get E b64 0 z52.2).bind fun z64 =>
        (gcast z64.2 11 16 z64.1).bind fun x67 =>
        some (x67, z64.2))
      else (
        some (v1, z52.2)))
    else (
      (gchk z4.2 17 v0).bind fun b12 =>
      (fJ2_get E b12 v2 z4.2).bind fun z12 =>
      (gcast z12.2 11 16 z12.1).bind fun x15 =>
      (gchk z12.2 17 v0).bind fun b22 =>
      (fJ2_size E b22 z12.2).bind fun z22 =>
      if z22.1 ≤ (v2 + 1) then (
        fX5_links_b42 E (fX5_links_b2 E n) v0 v1 v2 x15 v1 z22.2)
      else (
        (gchk z22.2 17 v0).bind fun b32 =>
        (fJ2_get E b32 (v2 + 1) z22.2).bind fun z32 =>
        (gcast z32.2 11 16 z32.1).bind fun x35 =>
        fX5_links_b42 E (fX5_links_b2 E n) v0 v1 v2 x15 x35 z32.2))
def fX5_links (E : g_E) (v0 : Option Nat) (v1 : Option Nat) (G : g_G) : Option (Option Nat × g_G) :=
  fX5_links_b2 E gFU v0 v1 0 G
def fX6_init (E : g_E) (t : Nat) (v1 : Int32) (v2 : Int32) (G : g_G) : Option (g_G) :=
  none
def fX7_comes (E : g_E) (t : Nat) (v1 : Option Nat) (v2 : Int32) (G : g_G) : Option (Option Nat × g_G) :=
  some ((some t), G)
def fX7_init (E : g_E) (t : Nat) (v1 : Int32) (v2 : Int32) (G : g_G) : Option (g_G) :=
  (gpI E G 11 16 (some t) 0 v1).bind fun G6 =>
  (gpI E G6 11 16 (some t) 1 v2).bind fun G11 =>
  some G11
def fX7_isOther (E : g_E) (v0 : Option Nat) (v1 : Int32) (v2 : Int32) (G : g_G) : Option (Int32 × g_G) :=
  if v2 < 0 then (
    if (0 : Int32) = 0 ∨ (0 : Int32) = 1 then some (0, G) else none)
  else (
    (grI G 3 3 v0 0).bind fun x6 =>
    if x6 ≤ v2 then (
      if (0 : Int32) = 0 ∨ (0 : Int32) = 1 then some (0, G) else none)
    else (
      if v2 = v1 then (
        if (0 : Int32) = 0 ∨ (0 : Int32) = 1 then some (0, G) else none)
      else (
        if (1 : Int32) = 0 ∨ (1 : Int32) = 1 then some (1, G) else none)))
def fX8_init (E : g_E) (t : Nat) (v1 : Int32) (v2 : Int32) (G : g_G) : Option (g_G) :=
  (fX7_init E t v1 v2 G).bind fun z3 =>
  some z3
def fX9_init (E : g_E) (t : Nat) (v1 : Int32) (v2 : Int32) (G : g_G) : Option (g_G) :=
  (fX8_init E t v1 v2 G).bind fun z3 =>
  (gpI E z3 15 15 (some t) 6 1).bind fun G8 =>
  some G8
def fJ13_copyOfRange_b10 (E : g_E) (v0 : Option Nat) (v1 : Int32) (v2 : Int32) (G : g_G) : Option (Option Nat × g_G) :=
  (fJ13_copyOfRangeByte E v0 v1 v2 G).bind fun z13 =>
  some (z13.1, z13.2)
def fJ13_copyOfRange (E : g_E) (v0 : Option Nat) (v1 : Int32) (v2 : Int32) (G : g_G) : Option (Option Nat × g_G) :=
  if ¬ v1 = 0 then (
    fJ13_copyOfRange_b10 E v0 v1 v2 G)
  else (
    (galen G v0).bind fun x6 =>
    if v2 = x6 then (
      (gclone E G v0).bind fun z18 =>
      (gcast z18.2 101 101 (some z18.1)).bind fun x21 =>
      some (x21, z18.2))
    else (
      fJ13_copyOfRange_b10 E v0 v1 v2 G))
def fJ13_copyOf_2 (E : g_E) (v0 : Option Nat) (v1 : Int32) (G : g_G) : Option (Option Nat × g_G) :=
  (gchk G 120 v0).bind fun b3 =>
  (fJ13_copyOf_3 E v0 v1 (some (gA E 7)) G).bind fun z6 =>
  some (z6.1, z6.2)
def fJ15_charAt (E : g_E) (v0 : Option Nat) (v1 : Int32) (G : g_G) : Option (Int32 × g_G) :=
  (galen G v0).bind fun x2 =>
  (fJ9_checkIndex E v1 x2 G).bind fun z3 =>
  (gaI z3 101 v0 v1).bind fun x8 =>
  if (Int32.toUInt32 (UInt32.toInt32 (Int32.toUInt32 (x8 &&& 255) % 65536))).toUInt16.toUInt32.toInt32 = (UInt32.toInt32 (Int32.toUInt32 (x8 &&& 255) % 65536)) then some ((UInt32.toInt32 (Int32.toUInt32 (x8 &&& 255) % 65536)), z3) else none
def fJ15_indexOf (E : g_E) (v0 : Option Nat) (v1 : Int32) (v2 : Int32) (v3 : Int32) (G : g_G) : Option (Int32 × g_G) :=
  (fJ15_canEncode_2 E v1 G).bind fun z1 =>
  if ¬ z1.1 = 0 then (
    (galen z1.2 v0).bind fun x17 =>
    if (if v2 < 0 then 0 else v2) < (if x17 < v3 then x17 else v3) then (
      (fJ15_indexOfChar E v0 v1 (if v2 < 0 then 0 else v2) (if x17 < v3 then x17 else v3) z1.2).bind fun z33 =>
      some (z33.1, z33.2))
    else (
      some ((-1), z1.2)))
  else (
    some ((-1), z1.2))
def fJ2_grow_2 (E : g_E) (t : Nat) (v1 : Int32) (G : g_G) : Option (Option Nat × g_G) :=
  (grR G 17 17 (some t) 1).bind fun x1 =>
  (galen G x1).bind fun x4 =>
  if 0 < x4 then (
    (fJ11_newLength E x4 (v1 - x4) (x4 >>> (1 &&& 31)) G).bind fun z27 =>
    (grR z27.2 17 17 (some t) 1).bind fun x33 =>
    (fJ13_copyOf_2 E x33 z27.1 z27.2).bind fun z37 =>
    (gpR E z37.2 17 17 (some t) 1 z37.1).bind fun G41 =>
    some (z37.1, G41))
  else (
    (grR G 17 17 (some t) 1).bind fun x11 =>
    none)
def fJ7_append (E : g_E) (t : Nat) (v1 : Option Nat) (G : g_G) : Option (Option Nat × g_G) :=
  if ¬ v1 = none then (
    (gchk G 19 v1).bind fun b10 =>
    (fJ9_length E b10 G).bind fun z10 =>
    (grI z10.2 18 18 (some t) 3).bind fun x16 =>
    (gchk z10.2 18 (some t)).bind fun b21 =>
    (fJ7_ensureCapacityInternal E b21 (x16 + z10.1) z10.2).bind fun z21 =>
    (grI z21 18 18 (some t) 3).bind fun x26 =>
    none)
  else (
    none)
def fJ7_append_3_b45 (E : g_E) (t : Nat) (v1 : Int32) (G : g_G) : Option (Option Nat × g_G) :=
  (gchk G 18 (some t)).bind fun b46 =>
  (fJ7_isLatin1 E b46 G).bind fun z46 =>
  if z46.1 = 0 then (
    (grR z46.2 18 18 (some t) 0).bind fun x57 =>
    (grI z46.2 18 18 (some t) 3).bind fun x62 =>
    (gpI E z46.2 18 18 (some t) 3 (x62 + 1)).bind fun G68 =>
    none)
  else (
    none)
def fJ7_append_3 (E : g_E) (t : Nat) (v1 : Int32) (G : g_G) : Option (Option Nat × g_G) :=
  (grI G 18 18 (some t) 3).bind fun x2 =>
  (gchk G 18 (some t)).bind fun b7 =>
  (fJ7_ensureCapacityInternal E b7 (x2 + 1) G).bind fun z7 =>
  (gchk z7 18 (some t)).bind fun b11 =>
  (fJ7_isLatin1 E b11 z7).bind fun z11 =>
  if z11.1 = 0 then (
    fJ7_append_3_b45 E t v1 z11.2)
  else (
    (fJ15_canEncode E v1 z11.2).bind fun z18 =>
    if z18.1 = 0 then (
      fJ7_append_3_b45 E t v1 z18.2)
    else (
      (grR z18.2 18 18 (some t) 0).bind fun x25 =>
      (grI z18.2 18 18 (some t) 3).bind fun x30 =>
      (gpI E z18.2 18 18 (some t) 3 (x30 + 1)).bind fun G36 =>
      (gsaB E G36 x25 x30 (Int8.toInt32 (Int32.toInt8 v1))).bind fun G41 =>
      some ((some t), G41)))
def fJ8_append (E : g_E) (t : Nat) (v1 : Option Nat) (G : g_G) : Option (Option Nat × g_G) :=
  (gchk G 18 (some t)).bind fun b2 =>
  (fJ7_append E b2 v1 G).bind fun z2 =>
  some ((some t), z2.2)
def fJ8_append_3 (E : g_E) (t : Nat) (v1 : Int32) (G : g_G) : Option (Option Nat × g_G) :=
  (gchk G 18 (some t)).bind fun b2 =>
  (fJ7_append_3 E b2 v1 G).bind fun z2 =>
  some ((some t), z2.2)
def fJ9_charAt (E : g_E) (t : Nat) (v1 : Int32) (G : g_G) : Option (Int32 × g_G) :=
  (gchk G 19 (some t)).bind fun b1 =>
  (fJ9_isLatin1 E b1 G).bind fun z1 =>
  if z1.1 = 0 then (
    (grR z1.2 19 19 (some t) 0).bind fun x17 =>
    none)
  else (
    (grR z1.2 19 19 (some t) 0).bind fun x8 =>
    (fJ15_charAt E x8 v1 z1.2).bind fun z12 =>
    if (Int32.toUInt32 z12.1).toUInt16.toUInt32.toInt32 = z12.1 then some (z12.1, z12.2) else none)
def fJ9_hashCode (E : g_E) (t : Nat) (G : g_G) : Option (Int32 × g_G) :=
  (grI G 19 19 (some t) 2).bind fun x1 =>
  if ¬ x1 = 0 then (
    some (x1, G))
  else (
    (grI G 19 19 (some t) 3).bind fun x10 =>
    if ¬ x10 = 0 then (
      some (x1, G))
    else (
      (gchk G 19 (some t)).bind fun b17 =>
      (fJ9_isLatin1 E b17 G).bind fun z17 =>
      if z17.1 = 0 then (
        (grR z17.2 19 19 (some t) 0).bind fun x34 =>
        none)
      else (
        (grR z17.2 19 19 (some t) 0).bind fun x24 =>
        (fJ15_hashCode E x24 z17.2).bind fun z27 =>
        if ¬ z27.1 = 0 then (
          (gpI E z27.2 19 19 (some t) 2 z27.1).bind fun G55 =>
          some (z27.1, G55))
        else (
          (gpZ E z27.2 19 19 (some t) 3 1).bind fun G47 =>
          some (z27.1, G47)))))
def fJ9_indexOf_2 (E : g_E) (t : Nat) (v1 : Int32) (v2 : Int32) (G : g_G) : Option (Int32 × g_G) :=
  (gchk G 19 (some t)).bind fun b1 =>
  (fJ9_isLatin1 E b1 G).bind fun z1 =>
  if z1.1 = 0 then (
    (grR z1.2 19 19 (some t) 0).bind fun x24 =>
    (gchk z1.2 19 (some t)).bind fun b30 =>
    (fJ9_length E b30 z1.2).bind fun z30 =>
    none)
  else (
    (grR z1.2 19 19 (some t) 0).bind fun x8 =>
    (gchk z1.2 19 (some t)).bind fun b14 =>
    (fJ9_length E b14 z1.2).bind fun z14 =>
    (fJ15_indexOf E x8 v1 v2 z14.1 z14.2).bind fun z17 =>
    some (z17.1, z17.2))
def fJ9_init_2_b79 (E : g_E) (t : Nat) (v3 : Option Nat) (v4 : Int32) (G : g_G) : Option (g_G) :=
  (gpB E G 19 19 (some t) 1 1).bind fun G81 =>
  (fJ13_copyOfRange E v3 0 (v4 <<< (1 &&& 31)) G81).bind fun z91 =>
  (gpR E z91.2 19 19 (some t) 0 z91.1).bind fun G94 =>
  some G94
def fJ9_init_2 (E : g_E) (t : Nat) (v1 : Option Nat) (v2 : Option Nat) (G : g_G) : Option (g_G) :=
  (gchk G 18 v1).bind fun b5 =>
  (fJ7_getValue E b5 G).bind fun z5 =>
  (gchk z5.2 18 v1).bind fun b10 =>
  (fJ8_length E b10 z5.2).bind fun z10 =>
  (gchk z10.2 18 v1).bind fun b16 =>
  (fJ7_isLatin1 E b16 z10.2).bind fun z16 =>
  if z16.1 = 0 then (
    if (1 : Int32) = 0 then (
      fJ9_init_2_b79 E t z5.1 z10.1 z16.2)
    else (
      (grI z16.2 18 18 v1 2).bind fun x48 =>
      if x48 = 0 then (
        fJ9_init_2_b79 E t z5.1 z10.1 z16.2)
      else (
        none)))
  else (
    (gpB E z16.2 19 19 (some t) 1 0).bind fun G24 =>
    (fJ13_copyOfRange E z5.1 0 z10.1 G24).bind fun z32 =>
    (gpR E z32.2 19 19 (some t) 0 z32.1).bind fun G35 =>
    some G35)
def fX11_value_b22 (E : g_E) (fI : Option Nat → Option Nat → Int32 → g_G → Option (Int32 × g_G)) : Nat → Nat → (Option Nat) → Int32 → Int32 → Int32 → g_G → Option (Int32 × g_G)
  | 0, _, _, _, _, _, _ => none
  | n + 1, t, v1, v2, v3, v4, G =>
    (grR G 9 9 (some t) 0).bind fun x25 =>
    (gchk G 17 x25).bind fun b28 =>
    (fJ2_size E b28 G).bind fun z28 =>
    if z28.1 ≤ v4 then (
      some (v3, z28.2))
    else (
      (grR z28.2 9 9 (some t) 1).bind fun x36 =>
      (gchk z28.2 17 x36).bind fun b43 =>
      (fJ2_get E b43 (v4 - 1) z28.2).bind fun z43 =>
      (gcast z43.2 20 20 z43.1).bind fun x46 =>
      (gchk z43.2 20 x46).bind fun b49 =>
      (fJ17_charValue E b49 z43.2).bind fun z49 =>
      (grR z49.2 9 9 (some t) 0).bind fun x53 =>
      (gchk z49.2 17 x53).bind fun b58 =>
      (fJ2_get E b58 v4 z49.2).bind fun z58 =>
      (gcast z58.2 8 10 z58.1).bind fun x61 =>
      (fI x61 v1 v2 z58.2).bind fun z66 =>
      (fX11_works E v3 z49.1 z66.1 z66.2).bind fun z71 =>
      fX11_value_b22 E fI n t v1 v2 z71.1 (v4 + 1) z71.2)
def fX11_value (E : g_E) (fI : Option Nat → Option Nat → Int32 → g_G → Option (Int32 × g_G)) (t : Nat) (v1 : Option Nat) (v2 : Int32) (G : g_G) : Option (Int32 × g_G) :=
  (grR G 9 9 (some t) 0).bind fun x1 =>
  (gchk G 17 x1).bind fun b5 =>
  (fJ2_get E b5 0 G).bind fun z5 =>
  (gcast z5.2 8 10 z5.1).bind fun x8 =>
  (fI x8 v1 v2 z5.2).bind fun z13 =>
  fX11_value_b22 E fI gFU t v1 v2 z13.1 1 z13.2
def fI_value (E : g_E) : Nat → Option Nat → Option Nat → Int32 → g_G → Option (Int32 × g_G)
  | 0 => fun r v1 v2 G => r.bind fun t => if gcl G t = 8 then fX10_value E t v1 v2 G else if gcl G t = 10 then fX12_value E t v1 v2 G else none
  | d + 1 => fun r v1 v2 G => r.bind fun t => if gcl G t = 8 then fX10_value E t v1 v2 G else if gcl G t = 10 then fX12_value E t v1 v2 G else if gcl G t = 9 then fX11_value E (fI_value E d) t v1 v2 G else none
def fX13_init (E : g_E) (t : Nat) (v1 : Int32) (v2 : Int32) (G : g_G) : Option (g_G) :=
  (fX8_init E t v1 v2 G).bind fun z3 =>
  (gpI E z3 16 16 (some t) 6 99).bind fun G9 =>
  some G9
def fX13_of (E : g_E) (t : Nat) (v1 : Option Nat) (v2 : Int32) (G : g_G) : Option (Int32 × g_G) :=
  (grR G 16 16 (some t) 4).bind fun x1 =>
  if ¬ x1 = none then (
    (grR G 16 16 (some t) 4).bind fun x12 =>
    (fI_value E gDP x12 v1 v2 G).bind fun z17 =>
    some (z17.1, z17.2))
  else (
    some ((-1), G))
def fX13_takes_b22 (E : g_E) (G : g_G) : Option (Int32 × g_G) :=
  if (1 : Int32) = 0 ∨ (1 : Int32) = 1 then some (1, G) else none
def fX13_takes (E : g_E) (t : Nat) (v1 : Option Nat) (v2 : Int32) (v3 : Int32) (G : g_G) : Option (Int32 × g_G) :=
  (grR G 16 16 (some t) 4).bind fun x1 =>
  if x1 = none then (
    fX13_takes_b22 E G)
  else (
    (grR G 16 16 (some t) 4).bind fun x8 =>
    (fI_value E gDP x8 v1 v2 G).bind fun z13 =>
    if ¬ z13.1 = v3 then (
      if (0 : Int32) = 0 ∨ (0 : Int32) = 1 then some (0, z13.2) else none)
    else (
      fX13_takes_b22 E z13.2))
def fX14_comes (E : g_E) (t : Nat) (v1 : Option Nat) (v2 : Int32) (G : g_G) : Option (Option Nat × g_G) :=
  (grR G 3 3 v1 5).bind fun x1 =>
  (grI G 12 12 (some t) 3).bind fun x8 =>
  (grR G 12 12 (some t) 4).bind fun x13 =>
  (fI_value E gDP x13 v1 v2 G).bind fun z18 =>
  (gsaI E z18.2 x1 ((4 * v2) + x8) z18.1).bind fun G23 =>
  (grR G23 12 12 (some t) 2).bind fun x25 =>
  some (x25, G23)
def fX14_init (E : g_E) (t : Nat) (v1 : Int32) (v2 : Int32) (v3 : Option Nat) (G : g_G) : Option (g_G) :=
  (fX7_init E t 8 v1 G).bind fun z4 =>
  (gpI E z4 12 12 (some t) 3 v2).bind fun G9 =>
  (gpR E G9 12 12 (some t) 4 v3).bind fun G14 =>
  some G14
def fX15_comes (E : g_E) (t : Nat) (v1 : Option Nat) (v2 : Int32) (G : g_G) : Option (Option Nat × g_G) :=
  (grR G 3 3 v1 7).bind fun x1 =>
  (grR G 3 3 v1 7).bind fun x8 =>
  (gaI G 100 x8 v2).bind fun x12 =>
  (grR G 13 13 (some t) 3).bind fun x15 =>
  (fI_value E gDP x15 v1 v2 G).bind fun z20 =>
  (gsaI E z20.2 x1 v2 ((31 * x12) + z20.1)).bind fun G26 =>
  (grR G26 13 13 (some t) 2).bind fun x28 =>
  some (x28, G26)
def fX15_init (E : g_E) (t : Nat) (v1 : Int32) (v2 : Option Nat) (G : g_G) : Option (g_G) :=
  (fX7_init E t 9 v1 G).bind fun z4 =>
  (gpR E z4 13 13 (some t) 3 v2).bind fun G9 =>
  some G9
def fX16_comes (E : g_E) (t : Nat) (v1 : Option Nat) (v2 : Int32) (G : g_G) : Option (Option Nat × g_G) :=
  (grR G 14 14 (some t) 3).bind fun x1 =>
  (fI_value E gDP x1 v1 v2 G).bind fun z6 =>
  if z6.1 = 0 then (
    (grR z6.2 14 14 (some t) 5).bind fun x22 =>
    some (x22, z6.2))
  else (
    (grR z6.2 14 14 (some t) 4).bind fun x15 =>
    some (x15, z6.2))
def fX16_init (E : g_E) (t : Nat) (v1 : Int32) (v2 : Option Nat) (G : g_G) : Option (g_G) :=
  (fX7_init E t 10 v1 G).bind fun z4 =>
  (gpR E z4 14 14 (some t) 3 v2).bind fun G9 =>
  some G9
def fX17_init (E : g_E) (t : Nat) (v1 : Int32) (v2 : Int32) (G : g_G) : Option (g_G) :=
  (fX7_init E t v1 v2 G).bind fun z3 =>
  some z3
def fX1_areAllAt_b2 (E : g_E) : Nat → (Option Nat) → Int32 → Int32 → g_G → Option (Int32 × g_G)
  | 0, _, _, _, _ => none
  | n + 1, v1, v2, v3, G =>
    (grI G 3 3 v1 0).bind fun x4 =>
    if x4 ≤ v3 then (
      if (1 : Int32) = 0 ∨ (1 : Int32) = 1 then some (1, G) else none)
    else (
      (gchk G 3 v1).bind fun b13 =>
      (fX3_isAt E b13 v3 v2 G).bind fun z13 =>
      if ¬ z13.1 = 0 then (
        fX1_areAllAt_b2 E n v1 v2 (v3 + 1) z13.2)
      else (
        if (0 : Int32) = 0 ∨ (0 : Int32) = 1 then some (0, z13.2) else none))
def fX1_areAllAt (E : g_E) (t : Nat) (v1 : Option Nat) (v2 : Int32) (G : g_G) : Option (Int32 × g_G) :=
  fX1_areAllAt_b2 E gFU v1 v2 0 G
def fX1_chose_b25 (E : g_E) (t : Nat) (v1 : Int32) (s0 : Int32) (G : g_G) : Option ((Int32 × g_G) ⊕ gX) :=
  gcat (fX1_there E s0 G) (fun z25 =>
    if ¬ v1 = (-1 : Int32) then (
      (grR z25 1 1 (some t) 30).bind fun x41 =>
      (gaI z25 100 x41 v1).bind fun x45 =>
      some (.inl (x45, z25)))
    else (
      (grI z25 1 1 (some t) 31).bind fun x34 =>
      some (.inl (x34, z25))))
  (fun y => some (.inr y))
def fX1_chose_b24 (E : g_E) (t : Nat) (v1 : Int32) (G : g_G) : Option ((Int32 × g_G) ⊕ gX) :=
  fX1_chose_b25 E t v1 0 G
def fX1_chose (E : g_E) (t : Nat) (v1 : Int32) (G : g_G) : Option ((Int32 × g_G) ⊕ gX) :=
  (grI G 1 1 (some t) 21).bind fun x1 =>
  if x1 = 0 then (
    fX1_chose_b24 E t v1 G)
  else (
    if v1 < (-1 : Int32) then (
      fX1_chose_b24 E t v1 G)
    else (
      (grI G 1 1 (some t) 31).bind fun x14 =>
      if x14 ≤ v1 then (
        fX1_chose_b24 E t v1 G)
      else (
        fX1_chose_b25 E t v1 1 G)))
def fX1_count (E : g_E) (t : Nat) (v1 : Int32) (G : g_G) : Option ((Int32 × g_G) ⊕ gX) :=
  (fX1_within E v1 0 6 G).bind fun z4 =>
  gcat (fX1_there E z4.1 z4.2) (fun z7 =>
    if v1 = 0 then (
      (grR z7 1 1 (some t) 4).bind fun x49 =>
      (grR z7 2 2 x49 0).bind fun x52 =>
      (gchk z7 17 x52).bind fun b55 =>
      (fJ2_size E b55 z7).bind fun z55 =>
      some (.inl (z55.1, z55.2)))
    else
    if v1 = 1 then (
      (grR z7 1 1 (some t) 4).bind fun x60 =>
      (grI z7 2 2 x60 2).bind fun x63 =>
      some (.inl (x63, z7)))
    else
    if v1 = 2 then (
      (grI z7 1 1 (some t) 0).bind fun x68 =>
      some (.inl (x68, z7)))
    else
    if v1 = 3 then (
      (grI z7 1 1 (some t) 1).bind fun x73 =>
      some (.inl (x73, z7)))
    else
    if v1 = 4 then (
      (grI z7 1 1 (some t) 2).bind fun x78 =>
      some (.inl (x78, z7)))
    else
    if v1 = 5 then (
      (grI z7 1 1 (some t) 3).bind fun x83 =>
      some (.inl (x83, z7)))
    else
    (
      (grI z7 1 1 (some t) 10).bind fun x88 =>
      some (.inl (x88, z7))))
  (fun y => some (.inr y))
def fX1_feed (E : g_E) (t : Nat) (v1 : Int32) (v2 : Int32) (v3 : Int32) (v4 : Int32) (v5 : Int32) (G : g_G) : Option (Int32 × g_G) :=
  (grI G 1 1 (some t) 10).bind fun x1 =>
  if (x1 + 20) ≤ (700 : Int32) then (
    (gchk G 1 (some t)).bind fun b17 =>
    (fX1_lay E b17 v1 G).bind fun z17 =>
    (gchk z17 1 (some t)).bind fun b22 =>
    (fX1_lay E b22 v2 z17).bind fun z22 =>
    (gchk z22 1 (some t)).bind fun b27 =>
    (fX1_lay E b27 v3 z22).bind fun z27 =>
    (gchk z27 1 (some t)).bind fun b33 =>
    (fX1_lay E b33 v4 z27).bind fun z33 =>
    (gchk z33 1 (some t)).bind fun b39 =>
    (fX1_lay E b39 v5 z33).bind fun z39 =>
    (grI z39 1 1 (some t) 10).bind fun x43 =>
    some (x43, z39))
  else (
    some ((-1), G))
def fX1_init_b179 (E : g_E) : Nat → Nat → Int32 → g_G → Option (g_G)
  | 0, _, _, _ => none
  | n + 1, t, v1, G =>
    if (200 : Int32) < v1 then (
      some G)
    else (
      (grR G 1 1 (some t) 12).bind fun x187 =>
      (gnewO E G 3 13).bind fun z191 =>
      (fX3_init E z191.1 z191.2).bind fun z195 =>
      (gsaR E z195 121 x187 v1 (some z191.1)).bind fun G198 =>
      fX1_init_b179 E n t (v1 + 1) G198)
def fX1_init (E : g_E) (t : Nat) (G : g_G) : Option (g_G) :=
  (gpI E G 1 1 (some t) 0 2).bind fun G6 =>
  (gnewO E G6 2 3).bind fun z10 =>
  (fX2_init E z10.1 z10.2).bind fun z14 =>
  (gpR E z14 1 1 (some t) 4 (some z10.1)).bind fun G17 =>
  (gnewA E G17 102 40).bind fun z23 =>
  (gpR E z23.2 1 1 (some t) 5 (some z23.1)).bind fun G25 =>
  (gnewA E G25 100 8).bind fun z31 =>
  (gpR E z31.2 1 1 (some t) 6 (some z31.1)).bind fun G33 =>
  (gnewA E G33 100 8).bind fun z39 =>
  (gpR E z39.2 1 1 (some t) 7 (some z39.1)).bind fun G41 =>
  (gnewA E G41 100 8).bind fun z47 =>
  (gpR E z47.2 1 1 (some t) 8 (some z47.1)).bind fun G49 =>
  (gnewA E G49 101 700).bind fun z56 =>
  (gpR E z56.2 1 1 (some t) 9 (some z56.1)).bind fun G58 =>
  (gpI E G58 1 1 (some t) 11 (-1)).bind fun G63 =>
  (gnewA E G63 121 201).bind fun z70 =>
  (gpR E z70.2 1 1 (some t) 12 (some z70.1)).bind fun G73 =>
  (gnewO E G73 17 3).bind fun z77 =>
  (fJ2_init E z77.1 2 z77.2).bind fun z82 =>
  (gpR E z82 1 1 (some t) 16 (some z77.1)).bind fun G85 =>
  (gnewA E G85 100 320).bind fun z92 =>
  (gpR E z92.2 1 1 (some t) 17 (some z92.1)).bind fun G94 =>
  (gnewA E G94 102 40).bind fun z100 =>
  (gpR E z100.2 1 1 (some t) 19 (some z100.1)).bind fun G102 =>
  (gnewO E G102 3 13).bind fun z106 =>
  (fX3_init E z106.1 z106.2).bind fun z110 =>
  (gpR E z110 1 1 (some t) 20 (some z106.1)).bind fun G113 =>
  (gnewA E G113 100 320).bind fun z120 =>
  (gpR E z120.2 1 1 (some t) 22 (some z120.1)).bind fun G122 =>
  (gnewA E G122 100 16).bind fun z128 =>
  (gpR E z128.2 1 1 (some t) 23 (some z128.1)).bind fun G130 =>
  (gnewA E G130 100 8).bind fun z136 =>
  (gpR E z136.2 1 1 (some t) 24 (some z136.1)).bind fun G138 =>
  (gnewA E G138 100 8).bind fun z144 =>
  (gpR E z144.2 1 1 (some t) 28 (some z144.1)).bind fun G146 =>
  (gnewA E G146 100 8).bind fun z152 =>
  (gpR E z152.2 1 1 (some t) 29 (some z152.1)).bind fun G154 =>
  (gnewA E G154 100 320).bind fun z161 =>
  (gpR E z161.2 1 1 (some t) 30 (some z161.1)).bind fun G163 =>
  (gnewO E G163 3 13).bind fun z167 =>
  (fX3_init E z167.1 z167.2).bind fun z171 =>
  (gpR E z171 1 1 (some t) 32 (some z167.1)).bind fun G174 =>
  fX1_init_b179 E gFU t 0 G174
def fX1_left_b20 (E : g_E) (t : Nat) (v1 : Int32) (s0 : Int32) (G : g_G) : Option ((Int32 × g_G) ⊕ gX) :=
  gcat (fX1_there E s0 G) (fun z20 =>
    (grR z20 1 1 (some t) 19).bind fun x24 =>
    (gaI z20 102 x24 v1).bind fun x28 =>
    if ¬ x28 = 0 then (
      if (0 : Int32) = 0 ∨ (0 : Int32) = 1 then some (.inl (0, z20)) else none)
    else (
      if (1 : Int32) = 0 ∨ (1 : Int32) = 1 then some (.inl (1, z20)) else none))
  (fun y => some (.inr y))
def fX1_left_b19 (E : g_E) (t : Nat) (v1 : Int32) (G : g_G) : Option ((Int32 × g_G) ⊕ gX) :=
  fX1_left_b20 E t v1 0 G
def fX1_left (E : g_E) (t : Nat) (v1 : Int32) (G : g_G) : Option ((Int32 × g_G) ⊕ gX) :=
  (gchk G 1 (some t)).bind fun b2 =>
  (fX1_isStep E b2 v1 G).bind fun z2 =>
  if z2.1 = 0 then (
    fX1_left_b19 E t v1 z2.2)
  else (
    (grI z2.2 1 1 (some t) 18).bind fun x9 =>
    if x9 = 0 then (
      fX1_left_b19 E t v1 z2.2)
    else (
      fX1_left_b20 E t v1 1 z2.2))
def fX1_ring_b25 (E : g_E) (t : Nat) (v1 : Int32) (s0 : Int32) (G : g_G) : Option ((Int32 × g_G) ⊕ gX) :=
  gcat (fX1_there E s0 G) (fun z25 =>
    if ¬ v1 = (-1 : Int32) then (
      (grR z25 1 1 (some t) 24).bind fun x41 =>
      (gaI z25 100 x41 v1).bind fun x45 =>
      some (.inl (x45, z25)))
    else (
      (grI z25 1 1 (some t) 27).bind fun x34 =>
      some (.inl (x34, z25))))
  (fun y => some (.inr y))
def fX1_ring_b24 (E : g_E) (t : Nat) (v1 : Int32) (G : g_G) : Option ((Int32 × g_G) ⊕ gX) :=
  fX1_ring_b25 E t v1 0 G
def fX1_ring (E : g_E) (t : Nat) (v1 : Int32) (G : g_G) : Option ((Int32 × g_G) ⊕ gX) :=
  (grI G 1 1 (some t) 21).bind fun x1 =>
  if x1 = 0 then (
    fX1_ring_b24 E t v1 G)
  else (
    if v1 < (-1 : Int32) then (
      fX1_ring_b24 E t v1 G)
    else (
      (grI G 1 1 (some t) 27).bind fun x14 =>
      if x14 ≤ v1 then (
        fX1_ring_b24 E t v1 G)
      else (
        fX1_ring_b25 E t v1 1 G)))
def fX1_step (E : g_E) (t : Nat) (v1 : Int32) (G : g_G) : Option ((Int32 × g_G) ⊕ gX) :=
  (gchk G 1 (some t)).bind fun b2 =>
  (fX1_isStep E b2 v1 G).bind fun z2 =>
  gcat (fX1_there E z2.1 z2.2) (fun z5 =>
    (grR z5 1 1 (some t) 4).bind fun x9 =>
    (grR z5 2 2 x9 0).bind fun x12 =>
    (gchk z5 17 x12).bind fun b16 =>
    (fJ2_get E b16 v1 z5).bind fun z16 =>
    (gcast z16.2 11 16 z16.1).bind fun x19 =>
    (grI z16.2 11 16 x19 0).bind fun x22 =>
    some (.inl (x22, z16.2)))
  (fun y => some (.inr y))
def fX3_bits_b26 (E : g_E) (k4 : Nat → Int32 → Int32 → g_G → Option (Int32 × g_G)) (t : Nat) (v1 : Int32) (v2 : Int32) (G : g_G) : Option (Int32 × g_G) :=
  k4 t v1 (v2 + 1) G
def fX3_bits_b4 (E : g_E) : Nat → Nat → Int32 → Int32 → g_G → Option (Int32 × g_G)
  | 0, _, _, _, _ => none
  | n + 1, t, v1, v2, G =>
    (grI G 3 3 (some t) 0).bind fun x6 =>
    if x6 ≤ v2 then (
      some (v1, G))
    else (
      (gchk G 3 (some t)).bind fun b14 =>
      (fX3_hasEnded E b14 v2 G).bind fun z14 =>
      if ¬ z14.1 = 0 then (
        fX3_bits_b26 E (fX3_bits_b4 E n) t v1 v2 z14.2)
      else (
        fX3_bits_b26 E (fX3_bits_b4 E n) t (v1 ||| (1 <<< (v2 &&& 31))) v2 z14.2))
def fX3_bits (E : g_E) (t : Nat) (G : g_G) : Option (Int32 × g_G) :=
  fX3_bits_b4 E gFU t 0 0 G
def fX3_copy_b115 (E : g_E) : Nat → Nat → (Option Nat) → Int32 → g_G → Option (g_G)
  | 0, _, _, _, _ => none
  | n + 1, t, v1, v2, G =>
    (grI G 3 3 (some t) 1).bind fun x117 =>
    if x117 ≤ v2 then (
      some G)
    else (
      (gchk G 3 (some t)).bind fun b127 =>
      (fX3_put E b127 v2 v1 v2 G).bind fun z127 =>
      fX3_copy_b115 E n t v1 (v2 + 1) z127)
def fX3_copy_b76 (E : g_E) (k18 : Nat → (Option Nat) → Int32 → g_G → Option (g_G)) : Nat → Nat → (Option Nat) → Int32 → Int32 → g_G → Option (g_G)
  | 0, _, _, _, _, _ => none
  | n + 1, t, v1, v2, v3, G =>
    if (4 : Int32) ≤ v3 then (
      k18 t v1 (v2 + 1) G)
    else (
      (grR G 3 3 (some t) 5).bind fun x82 =>
      (grR G 3 3 v1 5).bind fun x91 =>
      (gaI G 100 x91 ((4 * v2) + v3)).bind fun x99 =>
      (gsaI E G x82 ((4 * v2) + v3) x99).bind fun G100 =>
      fX3_copy_b76 E k18 n t v1 v2 (v3 + 1) G100)
def fX3_copy_b18 (E : g_E) : Nat → Nat → (Option Nat) → Int32 → g_G → Option (g_G)
  | 0, _, _, _, _ => none
  | n + 1, t, v1, v2, G =>
    (grI G 3 3 (some t) 0).bind fun x20 =>
    if x20 ≤ v2 then (
      fX3_copy_b115 E gFU t v1 0 G)
    else (
      (grR G 3 3 (some t) 3).bind fun x27 =>
      (grR G 3 3 v1 3).bind fun x32 =>
      (gaR G 122 x32 v2).bind fun x36 =>
      (gsaR E G 122 x27 v2 x36).bind fun G37 =>
      (grR G37 3 3 (some t) 4).bind fun x39 =>
      (grR G37 3 3 v1 4).bind fun x44 =>
      (gaI G37 102 x44 v2).bind fun x48 =>
      (gsaZ E G37 x39 v2 x48).bind fun G49 =>
      (grR G49 3 3 (some t) 6).bind fun x51 =>
      (grR G49 3 3 v1 6).bind fun x56 =>
      (gaI G49 100 x56 v2).bind fun x60 =>
      (gsaI E G49 x51 v2 x60).bind fun G61 =>
      (grR G61 3 3 (some t) 7).bind fun x63 =>
      (grR G61 3 3 v1 7).bind fun x68 =>
      (gaI G61 100 x68 v2).bind fun x72 =>
      (gsaI E G61 x63 v2 x72).bind fun G73 =>
      fX3_copy_b76 E (fX3_copy_b18 E n) gFU t v1 v2 0 G73)
def fX3_copy (E : g_E) (t : Nat) (v1 : Option Nat) (G : g_G) : Option (g_G) :=
  (grI G 3 3 v1 0).bind fun x2 =>
  (gpI E G 3 3 (some t) 0 x2).bind fun G5 =>
  (grI G5 3 3 v1 1).bind fun x10 =>
  (gpI E G5 3 3 (some t) 1 x10).bind fun G13 =>
  fX3_copy_b18 E gFU t v1 0 G13
def fX3_kind_b11 (E : g_E) : Nat → Nat → Int32 → g_G → Option (Int32 × g_G)
  | 0, _, _, _ => none
  | n + 1, t, v1, G =>
    (grI G 3 3 (some t) 0).bind fun x13 =>
    if x13 ≤ v1 then (
      some (2, G))
    else (
      (grR G 3 3 (some t) 4).bind fun x20 =>
      (gaI G 102 x20 v1).bind fun x24 =>
      if x24 = 0 then (
        fX3_kind_b11 E n t (v1 + 1) G)
      else (
        some (1, G)))
def fX3_kind (E : g_E) (t : Nat) (G : g_G) : Option (Int32 × g_G) :=
  (gchk G 3 (some t)).bind fun b1 =>
  (fX3_bits E b1 G).bind fun z1 =>
  if ¬ z1.1 = 0 then (
    fX3_kind_b11 E gFU t 0 z1.2)
  else (
    some (0, z1.2))
def fX3_lie_b50 (E : g_E) (t : Nat) (v3 : Int32) (v4 : Int32) (v5 : Int32) (v6 : Int32) (v7 : Int32) (v8 : Int32) (G : g_G) : Option (g_G) :=
  (grR G 3 3 (some t) 8).bind fun x51 =>
  (gsaI E G x51 v8 v7).bind fun G58 =>
  (grR G58 3 3 (some t) 9).bind fun x60 =>
  (gsaI E G58 x60 v8 v3).bind fun G66 =>
  (grR G66 3 3 (some t) 10).bind fun x68 =>
  (gsaI E G66 x68 v8 v4).bind fun G75 =>
  (grR G75 3 3 (some t) 11).bind fun x77 =>
  (gsaI E G75 x77 v8 v5).bind fun G84 =>
  (grR G84 3 3 (some t) 12).bind fun x86 =>
  (gsaI E G84 x86 v8 v6).bind fun G93 =>
  (grI G93 3 3 (some t) 1).bind fun x96 =>
  (gpI E G93 3 3 (some t) 1 (x96 + 1)).bind fun G101 =>
  some G101
def fX3_lie_b14 (E : g_E) : Nat → Nat → Int32 → Int32 → Int32 → Int32 → Int32 → Int32 → g_G → Option (g_G)
  | 0, _, _, _, _, _, _, _, _ => none
  | n + 1, t, v3, v4, v5, v6, v7, v8, G =>
    if v8 ≤ 0 then (
      fX3_lie_b50 E t v3 v4 v5 v6 v7 v8 G)
    else (
      (grR G 3 3 (some t) 8).bind fun x20 =>
      (gaI G 100 x20 (v8 - 1)).bind fun x27 =>
      if x27 ≤ v7 then (
        fX3_lie_b50 E t v3 v4 v5 v6 v7 v8 G)
      else (
        (gchk G 3 (some t)).bind fun b41 =>
        (fX3_put E b41 v8 (some t) (v8 - 1) G).bind fun z41 =>
        fX3_lie_b14 E n t v3 v4 v5 v6 v7 (v8 + (-1)) z41))
def fX3_lie (E : g_E) (t : Nat) (v1 : Int32) (v2 : Int32) (v3 : Int32) (v4 : Int32) (v5 : Int32) (v6 : Int32) (G : g_G) : Option (g_G) :=
  (grI G 3 3 (some t) 1).bind fun x9 =>
  fX3_lie_b14 E gFU t v3 v4 v5 v6 ((8 * v1) + v2) x9 G
def fX4_asked_b133 (E : g_E) (k22 : Nat → Int32 → Int32 → Int32 → Int32 → g_G → Option (Int32 × g_G)) (t : Nat) (v1 : Int32) (v3 : Int32) (v4 : Int32) (v5 : Int32) (G : g_G) : Option (Int32 × g_G) :=
  k22 t v1 v3 v4 (v5 + 1) G
def fX4_asked_b22 (E : g_E) : Nat → Nat → Int32 → Int32 → Int32 → Int32 → g_G → Option (Int32 × g_G)
  | 0, _, _, _, _, _, _ => none
  | n + 1, t, v1, v3, v4, v5, G =>
    (grR G 4 4 (some t) 26).bind fun x25 =>
    (gaI G 100 x25 v3).bind fun x29 =>
    if x29 ≤ v5 then (
      (grR G 4 4 (some t) 34).bind fun x140 =>
      (gaI G 100 x140 0).bind fun x144 =>
      some (x144, G))
    else (
      (grR G 4 4 (some t) 23).bind fun x34 =>
      (gaI G 100 x34 v5).bind fun x39 =>
      if ¬ x39 = 0 then (
        if x39 < (20 : Int32) then (
          (grR G 4 4 (some t) 34).bind fun x104 =>
          (grR G 4 4 (some t) 34).bind fun x114 =>
          (gaI G 100 x114 ((v4 + (-1)) - 1)).bind fun x121 =>
          (grR G 4 4 (some t) 34).bind fun x123 =>
          (gaI G 100 x123 (v4 + (-1))).bind fun x128 =>
          (fX4_two E x39 x121 x128 G).bind fun z129 =>
          (gsaI E z129.2 x104 ((v4 + (-1)) - 1) z129.1).bind fun G132 =>
          fX4_asked_b133 E (fX4_asked_b22 E n) t v1 v3 (v4 + (-1)) v5 G132)
        else (
          (grR G 4 4 (some t) 34).bind fun x78 =>
          (gchk G 4 (some t)).bind fun b90 =>
          (fX4_valueOf E b90 v1 (x39 - 20) G).bind fun z90 =>
          (gsaI E z90.2 x78 v4 z90.1).bind fun G93 =>
          fX4_asked_b133 E (fX4_asked_b22 E n) t v1 v3 (v4 + 1) v5 G93))
      else (
        (grR G 4 4 (some t) 34).bind fun x51 =>
        (grR G 4 4 (some t) 23).bind fun x57 =>
        (gaI G 100 x57 (v5 + 1)).bind fun x62 =>
        (gsaI E G x51 v4 x62).bind fun G63 =>
        fX4_asked_b133 E (fX4_asked_b22 E n) t v1 v3 (v4 + 1) (v5 + 1) G63))
def fX4_asked (E : g_E) (t : Nat) (v1 : Int32) (v2 : Int32) (G : g_G) : Option (Int32 × g_G) :=
  (gchk G 4 (some t)).bind fun b4 =>
  (fX4_own E b4 v1 0 G).bind fun z4 =>
  (grR z4.2 4 4 (some t) 25).bind fun x15 =>
  (gaI z4.2 100 x15 ((3 * z4.1) + v2)).bind fun x19 =>
  fX4_asked_b22 E gFU t v1 ((3 * z4.1) + v2) 0 x19 z4.2
def fX4_begun_b60 (E : g_E) (k4 : Nat → Int32 → Int32 → Int32 → g_G → Option (Int32 × g_G)) (t : Nat) (v1 : Int32) (v3 : Int32) (s0 : Int32) (s1 : Int32) (G : g_G) : Option (Int32 × g_G) :=
  k4 t v1 (s0 ||| s1) (v3 + 1) G
def fX4_begun_b59 (E : g_E) (k4 : Nat → Int32 → Int32 → Int32 → g_G → Option (Int32 × g_G)) (t : Nat) (v1 : Int32) (v3 : Int32) (s0 : Int32) (G : g_G) : Option (Int32 × g_G) :=
  fX4_begun_b60 E k4 t v1 v3 s0 0 G
def fX4_begun_b4 (E : g_E) : Nat → Nat → Int32 → Int32 → Int32 → g_G → Option (Int32 × g_G)
  | 0, _, _, _, _, _ => none
  | n + 1, t, v1, v2, v3, G =>
    (gchk G 4 (some t)).bind fun b6 =>
    (fX4_words E b6 G).bind fun z6 =>
    if z6.1 ≤ v3 then (
      some (v2, z6.2))
    else (
      (fX4_wordAt E v3 z6.2).bind fun z13 =>
      (grR z13.2 4 4 (some t) 33).bind fun x20 =>
      (gaI z13.2 100 x20 (z13.1 + 0)).bind fun x27 =>
      if ¬ x27 = v1 then (
        fX4_begun_b59 E (fX4_begun_b4 E n) t v1 v3 v2 z13.2)
      else (
        (grR z13.2 4 4 (some t) 33).bind fun x33 =>
        (gaI z13.2 100 x33 (z13.1 + 5)).bind fun x40 =>
        if ¬ x40 = (1 : Int32) then (
          fX4_begun_b59 E (fX4_begun_b4 E n) t v1 v3 v2 z13.2)
        else (
          (grR z13.2 4 4 (some t) 33).bind fun x47 =>
          (gaI z13.2 100 x47 (z13.1 + 1)).bind fun x54 =>
          fX4_begun_b60 E (fX4_begun_b4 E n) t v1 v3 v2 (1 <<< (x54 &&& 31)) z13.2)))
def fX4_begun (E : g_E) (t : Nat) (v1 : Int32) (G : g_G) : Option (Int32 × g_G) :=
  fX4_begun_b4 E gFU t v1 0 0 G
def fX4_bring_b55 (E : g_E) : Nat → Nat → Int32 → Int32 → g_G → Option (g_G)
  | 0, _, _, _, _ => none
  | n + 1, t, v3, v4, G =>
    if v3 ≤ v4 then (
      some G)
    else (
      (grR G 4 4 (some t) 33).bind fun x62 =>
      (gsaI E G x62 v4 0).bind fun G68 =>
      fX4_bring_b55 E n t v3 (v4 + 1) G68)
def fX4_bring_b20 (E : g_E) : Nat → Nat → Int32 → Int32 → Int32 → Int32 → g_G → Option (g_G)
  | 0, _, _, _, _, _, _ => none
  | n + 1, t, v1, v2, v3, v4, G =>
    if v2 ≤ v4 then (
      fX4_bring_b55 E gFU t v3 v2 G)
    else (
      (grR G 4 4 (some t) 33).bind fun x27 =>
      (grR G 4 4 (some t) 43).bind fun x33 =>
      (gaI G 100 x33 ((1985 * v1) + v4)).bind fun x44 =>
      (gsaI E G x27 v4 x44).bind fun G45 =>
      fX4_bring_b20 E n t v1 v2 v3 (v4 + 1) G45)
def fX4_bring (E : g_E) (t : Nat) (v1 : Int32) (G : g_G) : Option (g_G) :=
  (gchk G 4 (some t)).bind fun b2 =>
  (fX4_used E b2 v1 G).bind fun z2 =>
  (gchk z2.2 4 (some t)).bind fun b11 =>
  (fX4_words E b11 z2.2).bind fun z11 =>
  fX4_bring_b20 E gFU t v1 z2.1 (65 + (6 * z11.1)) 0 z11.2
def fX4_chose_b31 (E : g_E) (t : Nat) (G : g_G) : Option (Int32 × g_G) :=
  (gchk G 4 (some t)).bind fun b33 =>
  (fX4_fail E b33 1 G).bind fun z33 =>
  some (z33.1, z33.2)
def fX4_chose_b37 (E : g_E) (t : Nat) (v1 : Int32) (G : g_G) : Option (Int32 × g_G) :=
  if ¬ v1 = (-1 : Int32) then (
    (grR G 4 4 (some t) 69).bind fun x50 =>
    (gaI G 100 x50 v1).bind fun x54 =>
    some (x54, G))
  else (
    (grI G 4 4 (some t) 68).bind fun x43 =>
    some (x43, G))
def fX4_chose (E : g_E) (t : Nat) (v1 : Int32) (G : g_G) : Option (Int32 × g_G) :=
  (gpI E G 4 4 (some t) 2 0).bind fun G2 =>
  (gchk G2 4 (some t)).bind fun b6 =>
  (fX4_hasPlay E b6 G2).bind fun z6 =>
  if z6.1 = 0 then (
    fX4_chose_b31 E t z6.2)
  else (
    if v1 = (-1 : Int32) then (
      fX4_chose_b37 E t v1 z6.2)
    else (
      (grI z6.2 4 4 (some t) 68).bind fun x20 =>
      (fX4_isIn E v1 0 (x20 - 1) z6.2).bind fun z25 =>
      if ¬ z25.1 = 0 then (
        fX4_chose_b37 E t v1 z25.2)
      else (
        fX4_chose_b31 E t z25.2)))
def fX4_count (E : g_E) (t : Nat) (v1 : Int32) (G : g_G) : Option (Int32 × g_G) :=
  (gpI E G 4 4 (some t) 2 0).bind fun G2 =>
  if v1 = 0 then (
    (grR G2 4 4 (some t) 22).bind fun x49 =>
    (gaI G2 100 x49 0).bind fun x53 =>
    some (x53, G2))
  else
  if v1 = 1 then (
    (gchk G2 4 (some t)).bind fun b56 =>
    (fX4_anySteps E b56 G2).bind fun z56 =>
    some (z56.1, z56.2))
  else
  if v1 = 2 then (
    (grI G2 4 4 (some t) 3).bind fun x61 =>
    some (x61, G2))
  else
  if v1 = 3 then (
    (grI G2 4 4 (some t) 4).bind fun x66 =>
    some (x66, G2))
  else
  if v1 = 4 then (
    (grI G2 4 4 (some t) 5).bind fun x71 =>
    some (x71, G2))
  else
  if v1 = 5 then (
    (grI G2 4 4 (some t) 6).bind fun x76 =>
    some (x76, G2))
  else
  if v1 = 6 then (
    (grI G2 4 4 (some t) 10).bind fun x81 =>
    some (x81, G2))
  else
  (
    (gchk G2 4 (some t)).bind fun b87 =>
    (fX4_fail E b87 1 G2).bind fun z87 =>
    some (z87.1, z87.2))
def fX4_hasOther (E : g_E) (t : Nat) (v1 : Int32) (G : g_G) : Option (Int32 × g_G) :=
  (gchk G 4 (some t)).bind fun b3 =>
  (fX4_asked E b3 v1 0 G).bind fun z3 =>
  (grI z3.2 4 4 (some t) 3).bind fun x10 =>
  (fX4_isIn E z3.1 0 (x10 - 1) z3.2).bind fun z15 =>
  if z15.1 = 0 then (
    if (0 : Int32) = 0 ∨ (0 : Int32) = 1 then some (0, z15.2) else none)
  else (
    if z3.1 = v1 then (
      if (0 : Int32) = 0 ∨ (0 : Int32) = 1 then some (0, z15.2) else none)
    else (
      if (1 : Int32) = 0 ∨ (1 : Int32) = 1 then some (1, z15.2) else none))
def fX4_is_b75 (E : g_E) (k39 : Nat → (Option Nat) → Int32 → Int32 → g_G → Option (Int32 × g_G)) (t : Nat) (v1 : Option Nat) (v3 : Int32) (s0 : Int32) (G : g_G) : Option (Int32 × g_G) :=
  k39 t v1 s0 (v3 + 1) G
def fX4_is_b39 (E : g_E) : Nat → Nat → (Option Nat) → Int32 → Int32 → g_G → Option (Int32 × g_G)
  | 0, _, _, _, _, _ => none
  | n + 1, t, v1, v2, v3, G =>
    if v2 = 0 then (
      if v2 = 0 ∨ v2 = 1 then some (v2, G) else none)
    else (
      (gchk G 19 v1).bind fun b45 =>
      (fJ9_length E b45 G).bind fun z45 =>
      if z45.1 ≤ v3 then (
        if v2 = 0 ∨ v2 = 1 then some (v2, z45.2) else none)
      else (
        (gchk z45.2 19 v1).bind fun b53 =>
        (fJ9_charAt E b53 v3 z45.2).bind fun z53 =>
        (grR z53.2 4 4 (some t) 9).bind fun x57 =>
        (grI z53.2 4 4 (some t) 16).bind fun x61 =>
        (gaI z53.2 100 x57 (x61 + v3)).bind fun x66 =>
        if ¬ z53.1 = x66 then (
          fX4_is_b75 E (fX4_is_b39 E n) t v1 v3 0 z53.2)
        else (
          fX4_is_b75 E (fX4_is_b39 E n) t v1 v3 1 z53.2)))
def fX4_is_b36 (E : g_E) (t : Nat) (v1 : Option Nat) (s0 : Int32) (G : g_G) : Option (Int32 × g_G) :=
  fX4_is_b39 E gFU t v1 s0 0 G
def fX4_is_b35 (E : g_E) (t : Nat) (v1 : Option Nat) (G : g_G) : Option (Int32 × g_G) :=
  fX4_is_b36 E t v1 0 G
def fX4_is (E : g_E) (t : Nat) (v1 : Option Nat) (G : g_G) : Option (Int32 × g_G) :=
  (grI G 4 4 (some t) 18).bind fun x1 =>
  if ¬ x1 = 0 then (
    fX4_is_b35 E t v1 G)
  else (
    (grI G 4 4 (some t) 13).bind fun x8 =>
    if ¬ x8 = (1 : Int32) then (
      fX4_is_b35 E t v1 G)
    else (
      (gchk G 19 v1).bind fun b16 =>
      (fJ9_length E b16 G).bind fun z16 =>
      (grI z16.2 4 4 (some t) 17).bind fun x20 =>
      (grI z16.2 4 4 (some t) 16).bind fun x24 =>
      if ¬ z16.1 = (x20 - x24) then (
        fX4_is_b35 E t v1 z16.2)
      else (
        fX4_is_b36 E t v1 1 z16.2)))
def fX4_isAt (E : g_E) (t : Nat) (v1 : Int32) (v2 : Int32) (G : g_G) : Option (Int32 × g_G) :=
  (gchk G 4 (some t)).bind fun b3 =>
  (fX4_own E b3 v1 0 G).bind fun z3 =>
  if z3.1 = (-1 : Int32) then (
    if (0 : Int32) = 0 ∨ (0 : Int32) = 1 then some (0, z3.2) else none)
  else (
    (gchk z3.2 4 (some t)).bind fun b15 =>
    (fX4_own E b15 v1 1 z3.2).bind fun z15 =>
    if ¬ z15.1 = 0 then (
      if (0 : Int32) = 0 ∨ (0 : Int32) = 1 then some (0, z15.2) else none)
    else (
      (grR z15.2 4 4 (some t) 24).bind fun x22 =>
      (gaI z15.2 100 x22 z3.1).bind fun x26 =>
      if ¬ x26 = v2 then (
        if (0 : Int32) = 0 ∨ (0 : Int32) = 1 then some (0, z15.2) else none)
      else (
        if (1 : Int32) = 0 ∨ (1 : Int32) = 1 then some (1, z15.2) else none)))
def fX4_isHand (E : g_E) (t : Nat) (v1 : Int32) (G : g_G) : Option (Int32 × g_G) :=
  (grI G 4 4 (some t) 3).bind fun x3 =>
  (fX4_isIn E v1 0 (x3 - 1) G).bind fun z8 =>
  if z8.1 = 0 ∨ z8.1 = 1 then some (z8.1, z8.2) else none
def fX4_keep_b154 (E : g_E) : Nat → Nat → Int32 → Int32 → Int32 → g_G → Option (g_G)
  | 0, _, _, _, _, _ => none
  | n + 1, t, v1, v2, v3, G =>
    if v1 ≤ v3 then (
      (grR G 4 4 (some t) 44).bind fun x187 =>
      (grI G 4 4 (some t) 46).bind fun x191 =>
      (gsaI E G x187 x191 v2).bind fun G195 =>
      (grI G195 4 4 (some t) 46).bind fun x198 =>
      (gpI E G195 4 4 (some t) 46 (x198 + 1)).bind fun G203 =>
      some G203)
    else (
      (grR G 4 4 (some t) 43).bind fun x160 =>
      (grI G 4 4 (some t) 46).bind fun x167 =>
      (grR G 4 4 (some t) 33).bind fun x174 =>
      (gaI G 100 x174 v3).bind fun x178 =>
      (gsaI E G x160 ((1985 * x167) + v3) x178).bind fun G179 =>
      fX4_keep_b154 E n t v1 v2 (v3 + 1) G179)
def fX4_keep_b130 (E : g_E) (k41 : Nat → Int32 → Int32 → Int32 → g_G → Option (g_G)) (t : Nat) (v1 : Int32) (v2 : Int32) (v3 : Int32) (G : g_G) : Option (g_G) :=
  k41 t v1 v2 (v3 + 1) G
def fX4_keep_b124 (E : g_E) (k41 : Nat → Int32 → Int32 → Int32 → g_G → Option (g_G)) (t : Nat) (v1 : Int32) (v2 : Int32) (v3 : Int32) (v4 : Int32) (G : g_G) : Option (g_G) :=
  if v4 = 0 then (
    fX4_keep_b130 E k41 t v1 v2 v3 G)
  else (
    some G)
def fX4_keep_b116 (E : g_E) (k41 : Nat → Int32 → Int32 → Int32 → g_G → Option (g_G)) (k77 : Nat → Int32 → Int32 → Int32 → Int32 → Int32 → g_G → Option (g_G)) (t : Nat) (v1 : Int32) (v2 : Int32) (v3 : Int32) (v5 : Int32) (s0 : Int32) (G : g_G) : Option (g_G) :=
  k77 t v1 v2 v3 s0 (v5 + 1) G
def fX4_keep_b77 (E : g_E) (k41 : Nat → Int32 → Int32 → Int32 → g_G → Option (g_G)) : Nat → Nat → Int32 → Int32 → Int32 → Int32 → Int32 → g_G → Option (g_G)
  | 0, _, _, _, _, _, _, _ => none
  | n + 1, t, v1, v2, v3, v4, v5, G =>
    if v1 ≤ v5 then (
      fX4_keep_b124 E k41 t v1 v2 v3 v4 G)
    else (
      if v4 = 0 then (
        fX4_keep_b124 E k41 t v1 v2 v3 v4 G)
      else (
        (grR G 4 4 (some t) 43).bind fun x89 =>
        (gaI G 100 x89 ((1985 * v3) + v5)).bind fun x100 =>
        (grR G 4 4 (some t) 33).bind fun x102 =>
        (gaI G 100 x102 v5).bind fun x107 =>
        if ¬ x100 = x107 then (
          fX4_keep_b116 E k41 (fX4_keep_b77 E k41 n) t v1 v2 v3 v5 0 G)
        else (
          fX4_keep_b116 E k41 (fX4_keep_b77 E k41 n) t v1 v2 v3 v5 1 G)))
def fX4_keep_b41 (E : g_E) : Nat → Nat → Int32 → Int32 → Int32 → g_G → Option (g_G)
  | 0, _, _, _, _, _ => none
  | n + 1, t, v1, v2, v3, G =>
    (grI G 4 4 (some t) 46).bind fun x43 =>
    if x43 ≤ v3 then (
      (grI G 4 4 (some t) 46).bind fun x137 =>
      if ¬ x137 = (200 : Int32) then (
        fX4_keep_b154 E gFU t v1 v2 0 G)
      else (
        (gpZ E G 4 4 (some t) 48 1).bind fun G148 =>
        some G148))
    else (
      (grR G 4 4 (some t) 44).bind fun x50 =>
      (gaI G 100 x50 v3).bind fun x54 =>
      if ¬ x54 = v2 then (
        fX4_keep_b130 E (fX4_keep_b41 E n) t v1 v2 v3 G)
      else (
        (gchk G 4 (some t)).bind fun b61 =>
        (fX4_used E b61 v3 G).bind fun z61 =>
        if z61.1 = v1 then (
          fX4_keep_b77 E (fX4_keep_b41 E n) gFU t v1 v2 v3 1 0 z61.2)
        else (
          fX4_keep_b130 E (fX4_keep_b41 E n) t v1 v2 v3 z61.2)))
def fX4_keep_b16 (E : g_E) : Nat → Nat → Int32 → Int32 → Int32 → g_G → Option (g_G)
  | 0, _, _, _, _, _ => none
  | n + 1, t, v1, v2, v3, G =>
    if v1 ≤ v3 then (
      fX4_keep_b41 E gFU t v1 v2 0 G)
    else (
      (grR G 4 4 (some t) 33).bind fun x26 =>
      (gaI G 100 x26 v3).bind fun x30 =>
      fX4_keep_b16 E n t v1 ((31 * v2) + x30) (v3 + 1) G)
def fX4_keep (E : g_E) (t : Nat) (G : g_G) : Option (g_G) :=
  (gchk G 4 (some t)).bind fun b5 =>
  (fX4_words E b5 G).bind fun z5 =>
  fX4_keep_b16 E gFU t (65 + (6 * z5.1)) 7 0 z5.2
def fX4_kindNow_b53 (E : g_E) (k6 : Nat → Int32 → Int32 → Int32 → g_G → Option (Int32 × g_G)) (t : Nat) (v1 : Int32) (v3 : Int32) (s0 : Int32) (G : g_G) : Option (Int32 × g_G) :=
  k6 t v1 s0 (v3 + 1) G
def fX4_kindNow_b48 (E : g_E) (k6 : Nat → Int32 → Int32 → Int32 → g_G → Option (Int32 × g_G)) (t : Nat) (v1 : Int32) (v3 : Int32) (G : g_G) : Option (Int32 × g_G) :=
  fX4_kindNow_b53 E k6 t v1 v3 1 G
def fX4_kindNow_b33 (E : g_E) (k6 : Nat → Int32 → Int32 → Int32 → g_G → Option (Int32 × g_G)) (t : Nat) (v2 : Int32) (v3 : Int32) (s0 : Int32) (G : g_G) : Option (Int32 × g_G) :=
  if ¬ v2 = 0 then (
    fX4_kindNow_b48 E k6 t s0 v3 G)
  else (
    (gchk G 4 (some t)).bind fun b41 =>
    (fX4_own E b41 v3 1 G).bind fun z41 =>
    if ¬ z41.1 = (1 : Int32) then (
      fX4_kindNow_b53 E k6 t s0 v3 0 z41.2)
    else (
      fX4_kindNow_b48 E k6 t s0 v3 z41.2))
def fX4_kindNow_b32 (E : g_E) (k6 : Nat → Int32 → Int32 → Int32 → g_G → Option (Int32 × g_G)) (t : Nat) (v2 : Int32) (v3 : Int32) (G : g_G) : Option (Int32 × g_G) :=
  fX4_kindNow_b33 E k6 t v2 v3 0 G
def fX4_kindNow_b6 (E : g_E) : Nat → Nat → Int32 → Int32 → Int32 → g_G → Option (Int32 × g_G)
  | 0, _, _, _, _, _ => none
  | n + 1, t, v1, v2, v3, G =>
    (grI G 4 4 (some t) 3).bind fun x8 =>
    if x8 ≤ v3 then (
      if v1 = 0 then (
        if v2 = 0 then (
          some (2, G))
        else (
          some (1, G)))
      else (
        some (0, G)))
    else (
      if v1 = 0 then (
        fX4_kindNow_b32 E (fX4_kindNow_b6 E n) t v2 v3 G)
      else (
        (gchk G 4 (some t)).bind fun b21 =>
        (fX4_own E b21 v3 0 G).bind fun z21 =>
        if ¬ z21.1 = (-1 : Int32) then (
          fX4_kindNow_b32 E (fX4_kindNow_b6 E n) t v2 v3 z21.2)
        else (
          fX4_kindNow_b33 E (fX4_kindNow_b6 E n) t v2 v3 1 z21.2)))
def fX4_kindNow (E : g_E) (t : Nat) (G : g_G) : Option (Int32 × g_G) :=
  fX4_kindNow_b6 E gFU t 1 0 0 G
def fX4_lay_b220 (E : g_E) (t : Nat) (v1 : Int32) (v3 : Int32) (v4 : Int32) (s0 : Option Nat) (s1 : Int32) (s2 : Int32) (G : g_G) : Option (g_G) :=
  (gsaI E G s0 s1 s2).bind fun G220 =>
  (grR G220 4 4 (some t) 39).bind fun x222 =>
  (grR G220 4 4 (some t) 36).bind fun x228 =>
  (gaI G220 100 x228 v1).bind fun x232 =>
  (gchk G220 4 (some t)).bind fun b238 =>
  (fX4_farOf E b238 v1 v3 G220).bind fun z238 =>
  (gsaI E z238.2 x222 v4 ((x232 + 1) + z238.1)).bind fun G242 =>
  (grR G242 4 4 (some t) 33).bind fun x244 =>
  (gaI G242 100 x244 64).bind fun x250 =>
  (gsaI E G242 x244 64 (x250 + 1)).bind fun G253 =>
  some G253
def fX4_lay_b126 (E : g_E) (t : Nat) (v1 : Int32) (v2 : Int32) (v3 : Int32) (v4 : Int32) (G : g_G) : Option (g_G) :=
  (fX4_wordAt E v4 G).bind fun z128 =>
  (grR z128.2 4 4 (some t) 33).bind fun x134 =>
  (gsaI E z128.2 x134 (z128.1 + 0) v1).bind fun G142 =>
  (grR G142 4 4 (some t) 33).bind fun x144 =>
  (gsaI E G142 x144 (z128.1 + 1) v3).bind fun G152 =>
  (grR G152 4 4 (some t) 33).bind fun x154 =>
  (gchk G152 4 (some t)).bind fun b164 =>
  (fX4_asked E b164 v1 1 G152).bind fun z164 =>
  (gsaI E z164.2 x154 (z128.1 + 2) z164.1).bind fun G167 =>
  (grR G167 4 4 (some t) 33).bind fun x169 =>
  (gchk G167 4 (some t)).bind fun b179 =>
  (fX4_asked E b179 v1 2 G167).bind fun z179 =>
  (gsaI E z179.2 x169 (z128.1 + 3) z179.1).bind fun G182 =>
  (grR G182 4 4 (some t) 33).bind fun x184 =>
  (grR G182 4 4 (some t) 28).bind fun x192 =>
  (gchk G182 4 (some t)).bind fun b198 =>
  (fX4_own E b198 v1 0 G182).bind fun z198 =>
  (gaI z198.2 100 x192 z198.1).bind fun x201 =>
  (gsaI E z198.2 x184 (z128.1 + 4) x201).bind fun G202 =>
  (grR G202 4 4 (some t) 33).bind fun x204 =>
  if v2 = 0 then (
    fX4_lay_b220 E t v1 v3 v4 x204 (z128.1 + 5) 0 G202)
  else (
    fX4_lay_b220 E t v1 v3 v4 x204 (z128.1 + 5) 1 G202)
def fX4_lay_b68 (E : g_E) (k13 : Nat → Int32 → Int32 → Int32 → Int32 → g_G → Option (g_G)) : Nat → Nat → Int32 → Int32 → Int32 → Int32 → Int32 → Int32 → g_G → Option (g_G)
  | 0, _, _, _, _, _, _, _, _ => none
  | n + 1, t, v1, v2, v3, v4, v5, v7, G =>
    if (6 : Int32) ≤ v7 then (
      (grR G 4 4 (some t) 39).bind fun x105 =>
      (grR G 4 4 (some t) 39).bind fun x111 =>
      (gaI G 100 x111 (v4 - 1)).bind fun x118 =>
      (gsaI E G x105 v4 x118).bind fun G119 =>
      k13 t v1 v2 v3 (v4 + (-1)) G119)
    else (
      (grR G 4 4 (some t) 33).bind fun x76 =>
      (grR G 4 4 (some t) 33).bind fun x88 =>
      (gaI G 100 x88 (v5 + v7)).bind fun x96 =>
      (gsaI E G x76 ((v5 + 6) + v7) x96).bind fun G97 =>
      fX4_lay_b68 E k13 n t v1 v2 v3 v4 v5 (v7 + 1) G97)
def fX4_lay_b13 (E : g_E) : Nat → Nat → Int32 → Int32 → Int32 → Int32 → g_G → Option (g_G)
  | 0, _, _, _, _, _, _ => none
  | n + 1, t, v1, v2, v3, v4, G =>
    if v4 ≤ 0 then (
      fX4_lay_b126 E t v1 v2 v3 v4 G)
    else (
      (fX4_wordAt E (v4 - 1) G).bind fun z22 =>
      (grR z22.2 4 4 (some t) 33).bind fun x30 =>
      (gaI z22.2 100 x30 (z22.1 + 0)).bind fun x37 =>
      (grR z22.2 4 4 (some t) 33).bind fun x40 =>
      (gaI z22.2 100 x40 (z22.1 + 1)).bind fun x47 =>
      if ((8 * v1) + v3) < ((8 * x37) + x47) then (
        fX4_lay_b68 E (fX4_lay_b13 E n) gFU t v1 v2 v3 v4 z22.1 0 z22.2)
      else (
        fX4_lay_b126 E t v1 v2 v3 v4 z22.2))
def fX4_lay (E : g_E) (t : Nat) (v1 : Int32) (v2 : Int32) (G : g_G) : Option (g_G) :=
  (gchk G 4 (some t)).bind fun b3 =>
  (fX4_asked E b3 v1 0 G).bind fun z3 =>
  (gchk z3.2 4 (some t)).bind fun b8 =>
  (fX4_words E b8 z3.2).bind fun z8 =>
  fX4_lay_b13 E gFU t v1 v2 z3.1 z8.1 z8.2
def fX4_left_b24 (E : g_E) (t : Nat) (G : g_G) : Option (Int32 × g_G) :=
  (gchk G 4 (some t)).bind fun b26 =>
  (fX4_refuse E b26 1 G).bind fun z26 =>
  if z26.1 = 0 ∨ z26.1 = 1 then some (z26.1, z26.2) else none
def fX4_left (E : g_E) (t : Nat) (v1 : Int32) (G : g_G) : Option (Int32 × g_G) :=
  (gpI E G 4 4 (some t) 2 0).bind fun G2 =>
  (gchk G2 4 (some t)).bind fun b7 =>
  (fX4_isStep E b7 v1 G2).bind fun z7 =>
  if z7.1 = 0 then (
    fX4_left_b24 E t z7.2)
  else (
    (grI z7.2 4 4 (some t) 56).bind fun x14 =>
    (grI z7.2 4 4 (some t) 8).bind fun x18 =>
    if x14 = x18 then (
      (grR z7.2 4 4 (some t) 55).bind fun x31 =>
      (gaI z7.2 102 x31 v1).bind fun x35 =>
      if x35 = 0 ∨ x35 = 1 then some (x35, z7.2) else none)
    else (
      fX4_left_b24 E t z7.2))
def fX4_lying_b61 (E : g_E) (k3 : Nat → Int32 → Int32 → Int32 → Int32 → g_G → Option (Int32 × g_G)) (t : Nat) (v1 : Int32) (v2 : Int32) (v3 : Int32) (v4 : Int32) (G : g_G) : Option (Int32 × g_G) :=
  k3 t v1 v2 v3 (v4 + 1) G
def fX4_lying_b3 (E : g_E) : Nat → Nat → Int32 → Int32 → Int32 → Int32 → g_G → Option (Int32 × g_G)
  | 0, _, _, _, _, _, _ => none
  | n + 1, t, v1, v2, v3, v4, G =>
    (gchk G 4 (some t)).bind fun b6 =>
    (fX4_words E b6 G).bind fun z6 =>
    if z6.1 ≤ v4 then (
      some ((-1), z6.2))
    else (
      (fX4_wordAt E v4 z6.2).bind fun z14 =>
      (grR z14.2 4 4 (some t) 33).bind fun x20 =>
      (gaI z14.2 100 x20 (z14.1 + 0)).bind fun x27 =>
      if ¬ x27 = v1 then (
        fX4_lying_b61 E (fX4_lying_b3 E n) t v1 v2 v3 v4 z14.2)
      else (
        (grR z14.2 4 4 (some t) 33).bind fun x33 =>
        (gaI z14.2 100 x33 (z14.1 + 1)).bind fun x40 =>
        if ¬ x40 = v2 then (
          fX4_lying_b61 E (fX4_lying_b3 E n) t v1 v2 v3 v4 z14.2)
        else (
          (grR z14.2 4 4 (some t) 33).bind fun x46 =>
          (gaI z14.2 100 x46 (z14.1 + 2)).bind fun x53 =>
          if ¬ x53 = v3 then (
            fX4_lying_b61 E (fX4_lying_b3 E n) t v1 v2 v3 v4 z14.2)
          else (
            some (v4, z14.2)))))
def fX4_lying (E : g_E) (t : Nat) (v1 : Int32) (v2 : Int32) (v3 : Int32) (G : g_G) : Option (Int32 × g_G) :=
  fX4_lying_b3 E gFU t v1 v2 v3 0 G
def fX4_need_b20 (E : g_E) (t : Nat) (G : g_G) : Option (g_G) :=
  (grI G 4 4 (some t) 18).bind fun x21 =>
  if ¬ x21 = 0 then (
    some G)
  else (
    (gchk G 4 (some t)).bind fun b28 =>
    (fX4_stepOn E b28 G).bind fun z28 =>
    some z28)
def fX4_need (E : g_E) (t : Nat) (v1 : Int32) (G : g_G) : Option (g_G) :=
  (grI G 4 4 (some t) 18).bind fun x1 =>
  if ¬ x1 = 0 then (
    fX4_need_b20 E t G)
  else (
    (gchk G 4 (some t)).bind fun b9 =>
    (fX4_isSign E b9 v1 G).bind fun z9 =>
    if ¬ z9.1 = 0 then (
      fX4_need_b20 E t z9.2)
    else (
      (gchk z9.2 4 (some t)).bind fun b17 =>
      (fX4_wrong E b17 1 z9.2).bind fun z17 =>
      fX4_need_b20 E t z17))
def fX4_noteAny (E : g_E) (t : Nat) (v1 : Int32) (v2 : Int32) (G : g_G) : Option (g_G) :=
  (gpI E G 4 4 (some t) 40 v1).bind fun G2 =>
  (gpI E G2 4 4 (some t) 41 v2).bind fun G7 =>
  (gchk G7 4 (some t)).bind fun b14 =>
  (fX4_own E b14 v1 0 G7).bind fun z14 =>
  (gpI E z14.2 4 4 (some t) 42 z14.1).bind fun G17 =>
  some G17
def fX4_of_b41 (E : g_E) (t : Nat) (G : g_G) : Option (Int32 × g_G) :=
  (gchk G 4 (some t)).bind fun b43 =>
  (fX4_fail E b43 1 G).bind fun z43 =>
  some (z43.1, z43.2)
def fX4_of_b34 (E : g_E) (t : Nat) (v1 : Int32) (v2 : Int32) (G : g_G) : Option (Int32 × g_G) :=
  (gchk G 4 (some t)).bind fun b35 =>
  (fX4_hasPlay E b35 G).bind fun z35 =>
  if ¬ z35.1 = 0 then (
    if v2 = 0 then (
      (grR z35.2 4 4 (some t) 66).bind fun x97 =>
      (gaI z35.2 100 x97 v1).bind fun x101 =>
      some (x101, z35.2))
    else
    if v2 = 1 then (
      (grR z35.2 4 4 (some t) 67).bind fun x104 =>
      (gaI z35.2 100 x104 v1).bind fun x108 =>
      some (x108, z35.2))
    else
    if v2 = 2 then (
      (grR z35.2 4 4 (some t) 61).bind fun x111 =>
      (gaI z35.2 100 x111 ((8 * v1) + 0)).bind fun x117 =>
      some (x117, z35.2))
    else
    if v2 = 3 then (
      (grR z35.2 4 4 (some t) 61).bind fun x120 =>
      (gaI z35.2 100 x120 ((8 * v1) + 7)).bind fun x127 =>
      some (x127, z35.2))
    else
    if v2 = 4 then (
      (grR z35.2 4 4 (some t) 61).bind fun x130 =>
      (gaI z35.2 100 x130 ((8 * v1) + 6)).bind fun x137 =>
      some (x137, z35.2))
    else
    if v2 = 5 then (
      (grR z35.2 4 4 (some t) 64).bind fun x140 =>
      (gaI z35.2 100 x140 v1).bind fun x144 =>
      some (x144, z35.2))
    else
    if v2 = 6 then (
      (grR z35.2 4 4 (some t) 61).bind fun x147 =>
      (gaI z35.2 100 x147 ((8 * v1) + 1)).bind fun x153 =>
      some (x153, z35.2))
    else
    (
      (grR z35.2 4 4 (some t) 61).bind fun x156 =>
      (gaI z35.2 100 x156 ((((8 * v1) + 2) + v2) - 8)).bind fun x167 =>
      some (x167, z35.2)))
  else (
    fX4_of_b41 E t z35.2)
def fX4_of (E : g_E) (t : Nat) (v1 : Int32) (v2 : Int32) (G : g_G) : Option (Int32 × g_G) :=
  (gpI E G 4 4 (some t) 2 0).bind fun G2 =>
  (gchk G2 4 (some t)).bind fun b7 =>
  (fX4_isHand E b7 v1 G2).bind fun z7 =>
  if z7.1 = 0 then (
    fX4_of_b41 E t z7.2)
  else (
    (fX4_isIn E v2 0 6 z7.2).bind fun z17 =>
    if ¬ z17.1 = 0 then (
      fX4_of_b34 E t v1 v2 z17.2)
    else (
      (fX4_isIn E v2 8 11 z17.2).bind fun z28 =>
      if z28.1 = 0 then (
        fX4_of_b41 E t z28.2)
      else (
        fX4_of_b34 E t v1 v2 z28.2)))
def fX4_readNumber_b59 (E : g_E) (t : Nat) (G : g_G) : Option (Int32 × g_G) :=
  (grI G 4 4 (some t) 15).bind fun x60 =>
  (grI G 4 4 (some t) 18).bind fun x65 =>
  if ¬ x65 = 0 then (
    some (x60, G))
  else (
    (gchk G 4 (some t)).bind fun b72 =>
    (fX4_stepOn E b72 G).bind fun z72 =>
    some (x60, z72))
def fX4_readNumber_b54 (E : g_E) (t : Nat) (G : g_G) : Option (Int32 × g_G) :=
  (gchk G 4 (some t)).bind fun b56 =>
  (fX4_wrong E b56 2 G).bind fun z56 =>
  fX4_readNumber_b59 E t z56
def fX4_readNumber (E : g_E) (t : Nat) (v1 : Int32) (v2 : Int32) (G : g_G) : Option (Int32 × g_G) :=
  (grI G 4 4 (some t) 18).bind fun x1 =>
  if x1 = 0 then (
    (grI G 4 4 (some t) 13).bind fun x10 =>
    if x10 = (2 : Int32) then (
      (grI G 4 4 (some t) 17).bind fun x26 =>
      (grI G 4 4 (some t) 16).bind fun x30 =>
      if (4 : Int32) < (x26 - x30) then (
        fX4_readNumber_b54 E t G)
      else (
        (grI G 4 4 (some t) 15).bind fun x39 =>
        if x39 < v1 then (
          fX4_readNumber_b54 E t G)
        else (
          (grI G 4 4 (some t) 15).bind fun x47 =>
          if x47 ≤ v2 then (
            fX4_readNumber_b59 E t G)
          else (
            fX4_readNumber_b54 E t G))))
    else (
      (gchk G 4 (some t)).bind fun b19 =>
      (fX4_wrong E b19 1 G).bind fun z19 =>
      fX4_readNumber_b59 E t z19))
  else (
    some (0, G))
def fX4_sent_b65 (E : g_E) (k5 : Nat → Int32 → Int32 → Int32 → Int32 → g_G → Option (Int32 × g_G)) (t : Nat) (v1 : Int32) (v2 : Int32) (v4 : Int32) (s0 : Int32) (s1 : Int32) (G : g_G) : Option (Int32 × g_G) :=
  k5 t v1 v2 (s0 + s1) (v4 + 1) G
def fX4_sent_b64 (E : g_E) (k5 : Nat → Int32 → Int32 → Int32 → Int32 → g_G → Option (Int32 × g_G)) (t : Nat) (v1 : Int32) (v2 : Int32) (v4 : Int32) (s0 : Int32) (G : g_G) : Option (Int32 × g_G) :=
  fX4_sent_b65 E k5 t v1 v2 v4 s0 0 G
def fX4_sent_b5 (E : g_E) : Nat → Nat → Int32 → Int32 → Int32 → Int32 → g_G → Option (Int32 × g_G)
  | 0, _, _, _, _, _, _ => none
  | n + 1, t, v1, v2, v3, v4, G =>
    (gchk G 4 (some t)).bind fun b8 =>
    (fX4_words E b8 G).bind fun z8 =>
    if z8.1 ≤ v4 then (
      some (v3, z8.2))
    else (
      (fX4_wordAt E v4 z8.2).bind fun z16 =>
      (grR z16.2 4 4 (some t) 33).bind fun x23 =>
      (gaI z16.2 100 x23 (z16.1 + 0)).bind fun x30 =>
      if ¬ x30 = v1 then (
        fX4_sent_b64 E (fX4_sent_b5 E n) t v1 v2 v4 v3 z16.2)
      else (
        (grR z16.2 4 4 (some t) 33).bind fun x36 =>
        (gaI z16.2 100 x36 (z16.1 + 1)).bind fun x43 =>
        if ¬ x43 = v2 then (
          fX4_sent_b64 E (fX4_sent_b5 E n) t v1 v2 v4 v3 z16.2)
        else (
          (grR z16.2 4 4 (some t) 33).bind fun x49 =>
          (gaI z16.2 100 x49 (z16.1 + 5)).bind fun x56 =>
          if ¬ x56 = 0 then (
            fX4_sent_b64 E (fX4_sent_b5 E n) t v1 v2 v4 v3 z16.2)
          else (
            fX4_sent_b65 E (fX4_sent_b5 E n) t v1 v2 v4 v3 1 z16.2))))
def fX4_sent (E : g_E) (t : Nat) (v1 : Int32) (v2 : Int32) (G : g_G) : Option (Int32 × g_G) :=
  fX4_sent_b5 E gFU t v1 v2 0 0 G
def fX4_showEnding_b274 (E : g_E) : Nat → Nat → Int32 → g_G → Option (g_G)
  | 0, _, _, _ => none
  | n + 1, t, v5, G =>
    (grI G 4 4 (some t) 51).bind fun x279 =>
    if (11 * x279) ≤ v5 then (
      some G)
    else (
      (grR G 4 4 (some t) 50).bind fun x287 =>
      (grR G 4 4 (some t) 50).bind fun x293 =>
      (gaI G 100 x293 (v5 + 11)).bind fun x301 =>
      (gsaI E G x287 v5 x301).bind fun G302 =>
      fX4_showEnding_b274 E n t (v5 + 1) G302)
def fX4_showEnding_b250 (E : g_E) (t : Nat) (v3 : Int32) (s0 : Int32) (G : g_G) : Option (g_G) :=
  if ¬ s0 = 0 then (
    fX4_showEnding_b274 E gFU t (11 * v3) G)
  else (
    (grI G 4 4 (some t) 51).bind fun x259 =>
    (gpI E G 4 4 (some t) 51 (x259 + 1)).bind fun G264 =>
    some G264)
def fX4_showEnding_b249 (E : g_E) (t : Nat) (v3 : Int32) (G : g_G) : Option (g_G) :=
  fX4_showEnding_b250 E t v3 0 G
def fX4_showEnding_b221 (E : g_E) (t : Nat) (v3 : Int32) (G : g_G) : Option (g_G) :=
  if v3 ≤ 0 then (
    fX4_showEnding_b249 E t v3 G)
  else (
    (grR G 4 4 (some t) 50).bind fun x226 =>
    (fX4_compare E x226 (11 * (v3 - 1)) (11 * v3) G).bind fun z239 =>
    if ¬ z239.1 = 0 then (
      fX4_showEnding_b249 E t v3 z239.2)
    else (
      fX4_showEnding_b250 E t v3 1 z239.2))
def fX4_showEnding_b146 (E : g_E) (k119 : Nat → Int32 → g_G → Option (g_G)) : Nat → Nat → Int32 → Int32 → g_G → Option (g_G)
  | 0, _, _, _, _ => none
  | n + 1, t, v3, v4, G =>
    if (11 : Int32) ≤ v4 then (
      k119 t (v3 + (-1)) G)
    else (
      (grR G 4 4 (some t) 50).bind fun x154 =>
      (gaI G 100 x154 ((11 * v3) + v4)).bind fun x164 =>
      (grR G 4 4 (some t) 50).bind fun x168 =>
      (grR G 4 4 (some t) 50).bind fun x179 =>
      (gaI G 100 x179 ((11 * (v3 - 1)) + v4)).bind fun x191 =>
      (gsaI E G x168 ((11 * v3) + v4) x191).bind fun G192 =>
      (grR G192 4 4 (some t) 50).bind fun x194 =>
      (gsaI E G192 x194 ((11 * (v3 - 1)) + v4) x164).bind fun G208 =>
      fX4_showEnding_b146 E k119 n t v3 (v4 + 1) G208)
def fX4_showEnding_b119 (E : g_E) : Nat → Nat → Int32 → g_G → Option (g_G)
  | 0, _, _, _ => none
  | n + 1, t, v3, G =>
    if v3 ≤ 0 then (
      fX4_showEnding_b221 E t v3 G)
    else (
      (grR G 4 4 (some t) 50).bind fun x124 =>
      (fX4_compare E x124 (11 * (v3 - 1)) (11 * v3) G).bind fun z137 =>
      if z137.1 ≤ 0 then (
        fX4_showEnding_b221 E t v3 z137.2)
      else (
        fX4_showEnding_b146 E (fX4_showEnding_b119 E n) gFU t v3 0 z137.2))
def fX4_showEnding_b83 (E : g_E) (k22 : Nat → Int32 → Int32 → Int32 → g_G → Option (g_G)) (t : Nat) (v1 : Int32) (v3 : Int32) (s0 : Int32) (s1 : Int32) (G : g_G) : Option (g_G) :=
  k22 t v1 (s0 ||| s1) (v3 + 1) G
def fX4_showEnding_b82 (E : g_E) (k22 : Nat → Int32 → Int32 → Int32 → g_G → Option (g_G)) (t : Nat) (v1 : Int32) (v3 : Int32) (s0 : Int32) (G : g_G) : Option (g_G) :=
  fX4_showEnding_b83 E k22 t v1 v3 s0 0 G
def fX4_showEnding_b56 (E : g_E) (k22 : Nat → Int32 → Int32 → Int32 → g_G → Option (g_G)) (t : Nat) (v1 : Int32) (v2 : Int32) (v3 : Int32) (s0 : Option Nat) (s1 : Int32) (s2 : Int32) (G : g_G) : Option (g_G) :=
  (gsaI E G s0 s1 s2).bind fun G56 =>
  (grI G56 4 4 (some t) 3).bind fun x60 =>
  if x60 ≤ v3 then (
    fX4_showEnding_b82 E k22 t v1 v3 v2 G56)
  else (
    (gchk G56 4 (some t)).bind fun b69 =>
    (fX4_own E b69 v3 0 G56).bind fun z69 =>
    if z69.1 = (-1 : Int32) then (
      fX4_showEnding_b82 E k22 t v1 v3 v2 z69.2)
    else (
      fX4_showEnding_b83 E k22 t v1 v3 v2 (1 <<< (v3 &&& 31)) z69.2))
def fX4_showEnding_b22 (E : g_E) : Nat → Nat → Int32 → Int32 → Int32 → g_G → Option (g_G)
  | 0, _, _, _, _, _ => none
  | n + 1, t, v1, v2, v3, G =>
    if (8 : Int32) ≤ v3 then (
      (grR G 4 4 (some t) 50).bind fun x92 =>
      (gchk G 4 (some t)).bind fun b100 =>
      (fX4_words E b100 G).bind fun z100 =>
      (gsaI E z100.2 x92 (v1 + 9) z100.1).bind fun G103 =>
      (grR G103 4 4 (some t) 50).bind fun x105 =>
      (gsaI E G103 x105 (v1 + 10) v2).bind fun G113 =>
      (grI G113 4 4 (some t) 51).bind fun x115 =>
      fX4_showEnding_b119 E gFU t x115 G113)
    else (
      (grR G 4 4 (some t) 50).bind fun x29 =>
      (grI G 4 4 (some t) 3).bind fun x39 =>
      if x39 ≤ v3 then (
        fX4_showEnding_b56 E (fX4_showEnding_b22 E n) t v1 v2 v3 x29 ((v1 + 1) + v3) 0 G)
      else (
        (gchk G 4 (some t)).bind fun b49 =>
        (fX4_own E b49 v3 7 G).bind fun z49 =>
        fX4_showEnding_b56 E (fX4_showEnding_b22 E n) t v1 v2 v3 x29 ((v1 + 1) + v3) z49.1 z49.2))
def fX4_showEnding (E : g_E) (t : Nat) (G : g_G) : Option (g_G) :=
  (grI G 4 4 (some t) 51).bind fun x3 =>
  (grR G 4 4 (some t) 50).bind fun x9 =>
  (gchk G 4 (some t)).bind fun b14 =>
  (fX4_kindNow E b14 G).bind fun z14 =>
  (gsaI E z14.2 x9 (11 * x3) z14.1).bind fun G17 =>
  fX4_showEnding_b22 E gFU t (11 * x3) 0 0 G17
def fX4_someLocks_b37 (E : g_E) (k2 : Nat → Int32 → g_G → Option (Int32 × g_G)) (t : Nat) (v1 : Int32) (G : g_G) : Option (Int32 × g_G) :=
  k2 t (v1 + 1) G
def fX4_someLocks_b2 (E : g_E) : Nat → Nat → Int32 → g_G → Option (Int32 × g_G)
  | 0, _, _, _ => none
  | n + 1, t, v1, G =>
    (grI G 4 4 (some t) 46).bind fun x4 =>
    if x4 ≤ v1 then (
      if (0 : Int32) = 0 ∨ (0 : Int32) = 1 then some (0, G) else none)
    else (
      (grR G 4 4 (some t) 45).bind fun x11 =>
      (gaI G 102 x11 v1).bind fun x15 =>
      if ¬ x15 = 0 then (
        (gchk G 4 (some t)).bind fun b24 =>
        (fX4_bring E b24 v1 G).bind fun z24 =>
        (gchk z24 4 (some t)).bind fun b28 =>
        (fX4_kindNow E b28 z24).bind fun z28 =>
        if ¬ z28.1 = (2 : Int32) then (
          fX4_someLocks_b37 E (fX4_someLocks_b2 E n) t v1 z28.2)
        else (
          if (1 : Int32) = 0 ∨ (1 : Int32) = 1 then some (1, z28.2) else none))
      else (
        fX4_someLocks_b37 E (fX4_someLocks_b2 E n) t v1 G))
def fX4_someLocks (E : g_E) (t : Nat) (G : g_G) : Option (Int32 × g_G) :=
  fX4_someLocks_b2 E gFU t 0 G
def fX4_takeAway_b95 (E : g_E) : Nat → Nat → Int32 → Int32 → g_G → Option (g_G)
  | 0, _, _, _, _ => none
  | n + 1, t, v2, v3, G =>
    if (6 : Int32) ≤ v3 then (
      some G)
    else (
      (grR G 4 4 (some t) 33).bind fun x102 =>
      (gsaI E G x102 (v2 + v3) 0).bind fun G109 =>
      fX4_takeAway_b95 E n t v2 (v3 + 1) G109)
def fX4_takeAway_b20 (E : g_E) (k2 : Nat → Int32 → g_G → Option (g_G)) : Nat → Nat → Int32 → Int32 → Int32 → g_G → Option (g_G)
  | 0, _, _, _, _, _ => none
  | n + 1, t, v2, v3, v4, G =>
    if (6 : Int32) ≤ v4 then (
      (grR G 4 4 (some t) 39).bind fun x55 =>
      (grR G 4 4 (some t) 39).bind fun x60 =>
      (gaI G 100 x60 (v2 + 1)).bind fun x66 =>
      (gsaI E G x55 v2 x66).bind fun G67 =>
      k2 t (v2 + 1) G67)
    else (
      (grR G 4 4 (some t) 33).bind fun x28 =>
      (grR G 4 4 (some t) 33).bind fun x36 =>
      (gaI G 100 x36 ((v3 + 6) + v4)).bind fun x46 =>
      (gsaI E G x28 (v3 + v4) x46).bind fun G47 =>
      fX4_takeAway_b20 E k2 n t v2 v3 (v4 + 1) G47)
def fX4_takeAway_b2 (E : g_E) : Nat → Nat → Int32 → g_G → Option (g_G)
  | 0, _, _, _ => none
  | n + 1, t, v2, G =>
    (gchk G 4 (some t)).bind fun b6 =>
    (fX4_words E b6 G).bind fun z6 =>
    if z6.1 ≤ (v2 + 1) then (
      (grR z6.2 4 4 (some t) 33).bind fun x75 =>
      (gaI z6.2 100 x75 64).bind fun x81 =>
      (gsaI E z6.2 x75 64 (x81 - 1)).bind fun G84 =>
      (gchk G84 4 (some t)).bind fun b86 =>
      (fX4_words E b86 G84).bind fun z86 =>
      (fX4_wordAt E z86.1 z86.2).bind fun z89 =>
      fX4_takeAway_b95 E gFU t z89.1 0 z89.2)
    else (
      (fX4_wordAt E v2 z6.2).bind fun z13 =>
      fX4_takeAway_b20 E (fX4_takeAway_b2 E n) gFU t v2 z13.1 0 z13.2)
def fX4_takeAway (E : g_E) (t : Nat) (v1 : Int32) (G : g_G) : Option (g_G) :=
  fX4_takeAway_b2 E gFU t v1 G
def fX4_waitsFor_b133 (E : g_E) (k98 : Nat → Int32 → Int32 → Int32 → g_G → Option (Int32 × g_G)) (t : Nat) (v1 : Int32) (v4 : Int32) (s0 : Int32) (s1 : Int32) (G : g_G) : Option (Int32 × g_G) :=
  k98 t v1 (s0 ||| s1) (v4 + 1) G
def fX4_waitsFor_b132 (E : g_E) (k98 : Nat → Int32 → Int32 → Int32 → g_G → Option (Int32 × g_G)) (t : Nat) (v1 : Int32) (v4 : Int32) (s0 : Int32) (G : g_G) : Option (Int32 × g_G) :=
  fX4_waitsFor_b133 E k98 t v1 v4 s0 0 G
def fX4_waitsFor_b98 (E : g_E) : Nat → Nat → Int32 → Int32 → Int32 → g_G → Option (Int32 × g_G)
  | 0, _, _, _, _, _ => none
  | n + 1, t, v1, v3, v4, G =>
    (grI G 4 4 (some t) 3).bind fun x101 =>
    if x101 ≤ v4 then (
      some (v3, G))
    else (
      if v4 = v1 then (
        fX4_waitsFor_b132 E (fX4_waitsFor_b98 E n) t v1 v4 v3 G)
      else (
        (gchk G 4 (some t)).bind fun b118 =>
        (fX4_own E b118 v4 0 G).bind fun z118 =>
        if z118.1 = (-1 : Int32) then (
          fX4_waitsFor_b132 E (fX4_waitsFor_b98 E n) t v1 v4 v3 z118.2)
        else (
          fX4_waitsFor_b133 E (fX4_waitsFor_b98 E n) t v1 v4 v3 (1 <<< (v4 &&& 31)) z118.2)))
def fX4_waitsFor_b179 (E : g_E) (k146 : Nat → Int32 → Int32 → Int32 → g_G → Option (Int32 × g_G)) (t : Nat) (v2 : Int32) (v4 : Int32) (s0 : Int32) (s1 : Int32) (G : g_G) : Option (Int32 × g_G) :=
  k146 t v2 (s0 ||| s1) (v4 + 1) G
def fX4_waitsFor_b146 (E : g_E) : Nat → Nat → Int32 → Int32 → Int32 → g_G → Option (Int32 × g_G)
  | 0, _, _, _, _, _ => none
  | n + 1, t, v2, v3, v4, G =>
    (grI G 4 4 (some t) 3).bind fun x149 =>
    if x149 ≤ v4 then (
      some (v3, G))
    else (
      (grR G 4 4 (some t) 24).bind fun x160 =>
      (gaI G 100 x160 v2).bind fun x164 =>
      (gchk G 4 (some t)).bind fun b165 =>
      (fX4_isAt E b165 v4 x164 G).bind fun z165 =>
      if ¬ z165.1 = 0 then (
        fX4_waitsFor_b179 E (fX4_waitsFor_b146 E n) t v2 v4 v3 0 z165.2)
      else (
        fX4_waitsFor_b179 E (fX4_waitsFor_b146 E n) t v2 v4 v3 (1 <<< (v4 &&& 31)) z165.2))
def fX4_waitsFor (E : g_E) (t : Nat) (v1 : Int32) (G : g_G) : Option (Int32 × g_G) :=
  (gchk G 4 (some t)).bind fun b3 =>
  (fX4_own E b3 v1 0 G).bind fun z3 =>
  if z3.1 = (-1 : Int32) then (
    some (0, z3.2))
  else (
    (gchk z3.2 4 (some t)).bind fun b15 =>
    (fX4_own E b15 v1 1 z3.2).bind fun z15 =>
    if ¬ z15.1 = (1 : Int32) then (
      (grR z15.2 4 4 (some t) 24).bind fun x27 =>
      (gaI z15.2 100 x27 z3.1).bind fun x31 =>
      if x31 = 0 then (
        (gchk z15.2 4 (some t)).bind fun b84 =>
        (fX4_asked E b84 v1 0 z15.2).bind fun z84 =>
        some ((1 <<< (z84.1 &&& 31)), z84.2))
      else
      if x31 = 1 then (
        (gchk z15.2 4 (some t)).bind fun b84 =>
        (fX4_asked E b84 v1 0 z15.2).bind fun z84 =>
        some ((1 <<< (z84.1 &&& 31)), z84.2))
      else
      if x31 = 3 then (
        (gchk z15.2 4 (some t)).bind fun b84 =>
        (fX4_asked E b84 v1 0 z15.2).bind fun z84 =>
        some ((1 <<< (z84.1 &&& 31)), z84.2))
      else
      if x31 = 4 then (
        fX4_waitsFor_b98 E gFU t v1 0 0 z15.2)
      else
      if x31 = 5 then (
        (gchk z15.2 4 (some t)).bind fun b91 =>
        (fX4_begun E b91 v1 z15.2).bind fun z91 =>
        some (z91.1, z91.2))
      else
      if x31 = 6 then (
        fX4_waitsFor_b146 E gFU t z3.1 0 0 z15.2)
      else
      if x31 = 7 then (
        fX4_waitsFor_b146 E gFU t z3.1 0 0 z15.2)
      else
      (
        some (0, z15.2)))
    else (
      some (0, z15.2)))
def fX4_which_b2 (E : g_E) : Nat → Nat → (Option Nat) → Int32 → g_G → Option (Int32 × g_G)
  | 0, _, _, _, _ => none
  | n + 1, t, v1, v2, G =>
    (galen G v1).bind fun x4 =>
    if x4 ≤ v2 then (
      some ((-1), G))
    else (
      (gaR G 123 v1 v2).bind fun x11 =>
      (gchk G 4 (some t)).bind fun b12 =>
      (fX4_is E b12 x11 G).bind fun z12 =>
      if z12.1 = 0 then (
        fX4_which_b2 E n t v1 (v2 + 1) z12.2)
      else (
        some (v2, z12.2)))
def fX4_which (E : g_E) (t : Nat) (v1 : Option Nat) (G : g_G) : Option (Int32 × g_G) :=
  fX4_which_b2 E gFU t v1 0 G
def fX4_word_b20 (E : g_E) (t : Nat) (G : g_G) : Option (g_G) :=
  (grI G 4 4 (some t) 18).bind fun x21 =>
  if ¬ x21 = 0 then (
    some G)
  else (
    (gchk G 4 (some t)).bind fun b28 =>
    (fX4_stepOn E b28 G).bind fun z28 =>
    some z28)
def fX4_word (E : g_E) (t : Nat) (v1 : Option Nat) (G : g_G) : Option (g_G) :=
  (grI G 4 4 (some t) 18).bind fun x1 =>
  if ¬ x1 = 0 then (
    fX4_word_b20 E t G)
  else (
    (gchk G 4 (some t)).bind fun b9 =>
    (fX4_is E b9 v1 G).bind fun z9 =>
    if ¬ z9.1 = 0 then (
      fX4_word_b20 E t z9.2)
    else (
      (gchk z9.2 4 (some t)).bind fun b17 =>
      (fX4_wrong E b17 1 z9.2).bind fun z17 =>
      fX4_word_b20 E t z17))
def fX5_check (E : g_E) (t : Nat) (v1 : Int32) (v2 : Int32) (G : g_G) : Option ((g_G) ⊕ gX) :=
  if ¬ v1 = 0 then (
    some (.inl G))
  else (
    (gnewO E G 6 8).bind fun z4 =>
    (grI z4.2 5 5 (some t) 3).bind fun x10 =>
    (fX6_init E z4.1 v2 x10 z4.2).bind fun z13 =>
    (gthr E z13 6 (some z4.1)).bind fun b16 => some (.inr (6, b16, z13)))
def fX5_joins_b10 (E : g_E) : Nat → Nat → Int32 → g_G → Option (g_G)
  | 0, _, _, _ => none
  | n + 1, t, v1, G =>
    if v1 < 0 then (
      some G)
    else (
      (grR G 5 5 (some t) 11).bind fun x15 =>
      (gchk G 17 x15).bind fun b19 =>
      (fJ2_get E b19 v1 G).bind fun z19 =>
      (gcast z19.2 14 14 z19.1).bind fun x22 =>
      (grR z19.2 5 5 (some t) 12).bind fun x28 =>
      (gchk z19.2 17 x28).bind fun b32 =>
      (fJ2_get E b32 v1 z19.2).bind fun z32 =>
      (gcast z32.2 17 17 z32.1).bind fun x35 =>
      (grR z32.2 14 14 x22 2).bind fun x39 =>
      (fX5_links E x35 x39 z32.2).bind fun z42 =>
      (gpR E z42.2 14 14 x22 4 z42.1).bind fun G45 =>
      (grR G45 5 5 (some t) 13).bind fun x50 =>
      (gchk G45 17 x50).bind fun b54 =>
      (fJ2_get E b54 v1 G45).bind fun z54 =>
      (gcast z54.2 17 17 z54.1).bind fun x57 =>
      (grR z54.2 14 14 x22 2).bind fun x61 =>
      (fX5_links E x57 x61 z54.2).bind fun z64 =>
      (gpR E z64.2 14 14 x22 5 z64.1).bind fun G67 =>
      fX5_joins_b10 E n t (v1 + (-1)) G67)
def fX5_joins (E : g_E) (t : Nat) (G : g_G) : Option (g_G) :=
  (grR G 5 5 (some t) 11).bind fun x1 =>
  (gchk G 17 x1).bind fun b4 =>
  (fJ2_size E b4 G).bind fun z4 =>
  fX5_joins_b10 E gFU t (z4.1 - 1) z4.2
def fX5_kindOf_b264 (E : g_E) (v2 : Int32) (G : g_G) : Option (Int32 × g_G) :=
  if v2 = 0 then (
    some (0, G))
  else
  if v2 = 1 then (
    some (1, G))
  else
  if v2 = 2 then (
    some (2, G))
  else
  if v2 = 3 then (
    some (3, G))
  else
  if v2 = 4 then (
    some (4, G))
  else
  if v2 = 5 then (
    some (5, G))
  else
  if v2 = 6 then (
    some (6, G))
  else
  if v2 = 7 then (
    some (7, G))
  else
  if v2 = 8 then (
    some (8, G))
  else
  if v2 = 9 then (
    some (9, G))
  else
  if v2 = 10 then (
    some (10, G))
  else
  (
    some ((-1), G))
def fX5_kindOf (E : g_E) (v0 : Option Nat) (G : g_G) : Option (Int32 × g_G) :=
  (gchk G 19 v0).bind fun b5 =>
  (fJ9_hashCode E b5 G).bind fun z5 =>
  if z5.1 = 3357 then (
    (gchk z5.2 19 v0).bind fun b255 =>
    (fJ9_equals E b255 (some (gA E 32)) z5.2).bind fun z255 =>
    if z255.1 = 0 then (
      fX5_kindOf_b264 E (-1) z255.2)
    else (
      fX5_kindOf_b264 E 10 z255.2))
  else
  if z5.1 = 96673 then (
    (gchk z5.2 19 v0).bind fun b195 =>
    (fJ9_equals E b195 (some (gA E 28)) z5.2).bind fun z195 =>
    if z195.1 = 0 then (
      fX5_kindOf_b264 E (-1) z195.2)
    else (
      fX5_kindOf_b264 E 6 z195.2))
  else
  if z5.1 = 96748 then (
    (gchk z5.2 19 v0).bind fun b167 =>
    (fJ9_equals E b167 (some (gA E 26)) z5.2).bind fun z167 =>
    if z167.1 = 0 then (
      fX5_kindOf_b264 E (-1) z167.2)
    else (
      fX5_kindOf_b264 E 4 z167.2))
  else
  if z5.1 = 113762 then (
    (gchk z5.2 19 v0).bind fun b225 =>
    (fJ9_equals E b225 (some (gA E 30)) z5.2).bind fun z225 =>
    if z225.1 = 0 then (
      fX5_kindOf_b264 E (-1) z225.2)
    else (
      fX5_kindOf_b264 E 8 z225.2))
  else
  if z5.1 = 114251 then (
    (gchk z5.2 19 v0).bind fun b210 =>
    (fJ9_equals E b210 (some (gA E 29)) z5.2).bind fun z210 =>
    if z210.1 = 0 then (
      fX5_kindOf_b264 E (-1) z210.2)
    else (
      fX5_kindOf_b264 E 7 z210.2))
  else
  if z5.1 = 3089282 then (
    (gchk z5.2 19 v0).bind fun b181 =>
    (fJ9_equals E b181 (some (gA E 27)) z5.2).bind fun z181 =>
    if z181.1 = 0 then (
      fX5_kindOf_b264 E (-1) z181.2)
    else (
      fX5_kindOf_b264 E 5 z181.2))
  else
  if z5.1 = 3347527 then (
    (gchk z5.2 19 v0).bind fun b125 =>
    (fJ9_equals E b125 (some (gA E 23)) z5.2).bind fun z125 =>
    if z125.1 = 0 then (
      fX5_kindOf_b264 E (-1) z125.2)
    else (
      fX5_kindOf_b264 E 1 z125.2))
  else
  if z5.1 = 3526536 then (
    (gchk z5.2 19 v0).bind fun b111 =>
    (fJ9_equals E b111 (some (gA E 22)) z5.2).bind fun z111 =>
    if z111.1 = 0 then (
      fX5_kindOf_b264 E (-1) z111.2)
    else (
      fX5_kindOf_b264 E 0 z111.2))
  else
  if z5.1 = 3556273 then (
    (gchk z5.2 19 v0).bind fun b240 =>
    (fJ9_equals E b240 (some (gA E 31)) z5.2).bind fun z240 =>
    if z240.1 = 0 then (
      fX5_kindOf_b264 E (-1) z240.2)
    else (
      fX5_kindOf_b264 E 9 z240.2))
  else
  if z5.1 = 3641717 then (
    (gchk z5.2 19 v0).bind fun b153 =>
    (fJ9_equals E b153 (some (gA E 25)) z5.2).bind fun z153 =>
    if z153.1 = 0 then (
      fX5_kindOf_b264 E (-1) z153.2)
    else (
      fX5_kindOf_b264 E 3 z153.2))
  else
  if z5.1 = 93616297 then (
    (gchk z5.2 19 v0).bind fun b139 =>
    (fJ9_equals E b139 (some (gA E 24)) z5.2).bind fun z139 =>
    if z139.1 = 0 then (
      fX5_kindOf_b264 E (-1) z139.2)
    else (
      fX5_kindOf_b264 E 2 z139.2))
  else
  (
    fX5_kindOf_b264 E (-1) z5.2)
def fX5_valueOf_b179 (E : g_E) (v2 : Int32) (G : g_G) : Option (Int32 × g_G) :=
  if v2 = 0 then (
    some (0, G))
  else
  if v2 = 1 then (
    some (1, G))
  else
  if v2 = 2 then (
    some (2, G))
  else
  if v2 = 3 then (
    some (3, G))
  else
  if v2 = 4 then (
    some (4, G))
  else
  if v2 = 5 then (
    some (5, G))
  else
  if v2 = 6 then (
    some (6, G))
  else
  (
    some ((-1), G))
def fX5_valueOf (E : g_E) (v0 : Option Nat) (G : g_G) : Option (Int32 × g_G) :=
  (gchk G 19 v0).bind fun b5 =>
  (fJ9_hashCode E b5 G).bind fun z5 =>
  if z5.1 = 97 then (
    (gchk z5.2 19 v0).bind fun b80 =>
    (fJ9_equals E b80 (some (gA E 37)) z5.2).bind fun z80 =>
    if z80.1 = 0 then (
      fX5_valueOf_b179 E (-1) z80.2)
    else (
      fX5_valueOf_b179 E 0 z80.2))
  else
  if z5.1 = 98 then (
    (gchk z5.2 19 v0).bind fun b95 =>
    (fJ9_equals E b95 (some (gA E 38)) z5.2).bind fun z95 =>
    if z95.1 = 0 then (
      fX5_valueOf_b179 E (-1) z95.2)
    else (
      fX5_valueOf_b179 E 1 z95.2))
  else
  if z5.1 = 99 then (
    (gchk z5.2 19 v0).bind fun b110 =>
    (fJ9_equals E b110 (some (gA E 39)) z5.2).bind fun z110 =>
    if z110.1 = 0 then (
      fX5_valueOf_b179 E (-1) z110.2)
    else (
      fX5_valueOf_b179 E 2 z110.2))
  else
  if z5.1 = 100 then (
    (gchk z5.2 19 v0).bind fun b125 =>
    (fJ9_equals E b125 (some (gA E 40)) z5.2).bind fun z125 =>
    if z125.1 = 0 then (
      fX5_valueOf_b179 E (-1) z125.2)
    else (
      fX5_valueOf_b179 E 3 z125.2))
  else
  if z5.1 = 110 then (
    (gchk z5.2 19 v0).bind fun b155 =>
    (fJ9_equals E b155 (some (gA E 42)) z5.2).bind fun z155 =>
    if z155.1 = 0 then (
      fX5_valueOf_b179 E (-1) z155.2)
    else (
      fX5_valueOf_b179 E 5 z155.2))
  else
  if z5.1 = 3480 then (
    (gchk z5.2 19 v0).bind fun b140 =>
    (fJ9_equals E b140 (some (gA E 41)) z5.2).bind fun z140 =>
    if z140.1 = 0 then (
      fX5_valueOf_b179 E (-1) z140.2)
    else (
      fX5_valueOf_b179 E 4 z140.2))
  else
  if z5.1 = 3151786 then (
    (gchk z5.2 19 v0).bind fun b170 =>
    (fJ9_equals E b170 (some (gA E 43)) z5.2).bind fun z170 =>
    if z170.1 = 0 then (
      fX5_valueOf_b179 E (-1) z170.2)
    else (
      fX5_valueOf_b179 E 6 z170.2))
  else
  (
    fX5_valueOf_b179 E (-1) z5.2)
def fX8_mark (E : g_E) (t : Nat) (v1 : Option Nat) (v2 : Int32) (G : g_G) : Option (Int32 × g_G) :=
  (grR G 15 16 (some t) 3).bind fun x1 =>
  (fI_value E gDP x1 v1 v2 G).bind fun z6 =>
  some (z6.1, z6.2)
def fX9_to (E : g_E) (t : Nat) (v1 : Option Nat) (v2 : Int32) (G : g_G) : Option (Int32 × g_G) :=
  (grR G 15 15 (some t) 4).bind fun x1 =>
  (fI_value E gDP x1 v1 v2 G).bind fun z6 =>
  some (z6.1, z6.2)
def fJ2_grow (E : g_E) (t : Nat) (G : g_G) : Option (Option Nat × g_G) :=
  (grI G 17 17 (some t) 2).bind fun x2 =>
  (gchk G 17 (some t)).bind fun b7 =>
  (fJ2_grow_2 E b7 (x2 + 1) G).bind fun z7 =>
  some (z7.1, z7.2)
def fJ9_indexOf (E : g_E) (t : Nat) (v1 : Int32) (G : g_G) : Option (Int32 × g_G) :=
  (gchk G 19 (some t)).bind fun b3 =>
  (fJ9_indexOf_2 E b3 v1 0 G).bind fun z3 =>
  some (z3.1, z3.2)
def fJ9_init (E : g_E) (t : Nat) (v1 : Option Nat) (G : g_G) : Option (g_G) :=
  (fJ9_init_2 E t v1 none G).bind fun z3 =>
  some z3
def fX0_chose (E : g_E) (v0 : Option Nat) (v1 : Int32) (v2 : Option Nat) (G : g_G) : Option ((Int32 × g_G) ⊕ gX) :=
  (gchk G 1 v0).bind fun b4 =>
  gcat (fX1_chose E b4 v1 G) (fun z4 =>
    (gsaL E z4.2 v2 0 (Int32.toInt64 z4.1)).bind fun G8 =>
    some (.inl (0, G8)))
  (fun y => if y.1 = 22 then (
    some (.inl (1, y.2.2))) else none)
def fX0_count (E : g_E) (v0 : Option Nat) (v1 : Int32) (v2 : Option Nat) (G : g_G) : Option ((Int32 × g_G) ⊕ gX) :=
  (gchk G 1 v0).bind fun b4 =>
  gcat (fX1_count E b4 v1 G) (fun z4 =>
    (gsaL E z4.2 v2 0 (Int32.toInt64 z4.1)).bind fun G8 =>
    some (.inl (0, G8)))
  (fun y => if y.1 = 22 then (
    some (.inl (1, y.2.2))) else none)
def fX0_left_b15 (E : g_E) (s0 : Option Nat) (s1 : Int32) (s2 : Int64) (G : g_G) : Option ((Int32 × g_G) ⊕ gX) :=
  (gsaL E G s0 s1 s2).bind fun G15 =>
  some (.inl (0, G15))
def fX0_left (E : g_E) (v0 : Option Nat) (v1 : Int32) (v2 : Option Nat) (G : g_G) : Option ((Int32 × g_G) ⊕ gX) :=
  (gchk G 1 v0).bind fun b4 =>
  gcat (fX1_left E b4 v1 G) (fun z4 =>
    if z4.1 = 0 then (
      fX0_left_b15 E v2 0 0 z4.2)
    else (
      fX0_left_b15 E v2 0 1 z4.2))
  (fun y => if y.1 = 22 then (
    some (.inl (1, y.2.2))) else none)
def fX0_ring (E : g_E) (v0 : Option Nat) (v1 : Int32) (v2 : Option Nat) (G : g_G) : Option ((Int32 × g_G) ⊕ gX) :=
  (gchk G 1 v0).bind fun b4 =>
  gcat (fX1_ring E b4 v1 G) (fun z4 =>
    (gsaL E z4.2 v2 0 (Int32.toInt64 z4.1)).bind fun G8 =>
    some (.inl (0, G8)))
  (fun y => if y.1 = 22 then (
    some (.inl (1, y.2.2))) else none)
def fX0_step (E : g_E) (v0 : Option Nat) (v1 : Int32) (v2 : Option Nat) (G : g_G) : Option ((Int32 × g_G) ⊕ gX) :=
  (gchk G 1 v0).bind fun b4 =>
  gcat (fX1_step E b4 v1 G) (fun z4 =>
    (gsaL E z4.2 v2 0 (Int32.toInt64 z4.1)).bind fun G8 =>
    some (.inl (0, G8)))
  (fun y => if y.1 = 22 then (
    some (.inl (1, y.2.2))) else none)
def fX13_comes_b31 (E : g_E) (t : Nat) (v1 : Option Nat) (v2 : Int32) (s0 : Option Nat) (s1 : Int32) (s2 : Int32) (G : g_G) : Option (Option Nat × g_G) :=
  (gsaZ E G s0 s1 s2).bind fun G31 =>
  (gchk G31 16 (some t)).bind fun b35 =>
  (fX7_comes E b35 v1 v2 G31).bind fun z35 =>
  some (z35.1, z35.2)
def fX13_comes_b30 (E : g_E) (t : Nat) (v1 : Option Nat) (v2 : Int32) (s0 : Option Nat) (s1 : Int32) (G : g_G) : Option (Option Nat × g_G) :=
  fX13_comes_b31 E t v1 v2 s0 s1 0 G
def fX13_comes (E : g_E) (t : Nat) (v1 : Option Nat) (v2 : Int32) (G : g_G) : Option (Option Nat × g_G) :=
  (grR G 3 3 v1 4).bind fun x1 =>
  (grR G 16 16 (some t) 4).bind fun x6 =>
  if x6 = none then (
    fX13_comes_b30 E t v1 v2 x1 v2 G)
  else (
    (gchk G 16 (some t)).bind fun b17 =>
    (fX13_of E b17 v1 v2 G).bind fun z17 =>
    (fX7_isOther E v1 v2 z17.1 z17.2).bind fun z20 =>
    if ¬ z20.1 = 0 then (
      fX13_comes_b30 E t v1 v2 x1 v2 z20.2)
    else (
      fX13_comes_b31 E t v1 v2 x1 v2 1 z20.2))
def fX1_handsOver_b48 (E : g_E) (v1 : Option Nat) (v2 : Int32) (v4 : Int32) (v5 : Int32) (G : g_G) : Option (Int32 × g_G) :=
  (grR G 3 3 v1 3).bind fun x49 =>
  (gaR G 122 x49 v4).bind fun x54 =>
  (gcast G 16 16 x54).bind fun x55 =>
  (gchk G 16 x55).bind fun b66 =>
  (fX13_takes E b66 v1 v4 v2 G).bind fun z66 =>
  if z66.1 = 0 then (
    if (0 : Int32) = 0 ∨ (0 : Int32) = 1 then some (0, z66.2) else none)
  else (
    (gchk z66.2 16 x55).bind fun b77 =>
    (fX8_mark E b77 v1 v4 z66.2).bind fun z77 =>
    if ¬ z77.1 = v5 then (
      if (0 : Int32) = 0 ∨ (0 : Int32) = 1 then some (0, z77.2) else none)
    else (
      (gchk z77.2 3 v1).bind fun b91 =>
      (fX3_first E b91 v2 v4 v5 z77.2).bind fun z91 =>
      if ¬ z91.1 = (-1 : Int32) then (
        if (0 : Int32) = 0 ∨ (0 : Int32) = 1 then some (0, z91.2) else none)
      else (
        if (1 : Int32) = 0 ∨ (1 : Int32) = 1 then some (1, z91.2) else none)))
def fX1_handsOver (E : g_E) (t : Nat) (v1 : Option Nat) (v2 : Int32) (G : g_G) : Option (Int32 × g_G) :=
  (grR G 3 3 v1 3).bind fun x1 =>
  (gaR G 122 x1 v2).bind fun x5 =>
  (gcast G 15 15 x5).bind fun x6 =>
  (gchk G 15 x6).bind fun b13 =>
  (fX9_to E b13 v1 v2 G).bind fun z13 =>
  (gchk z13.2 15 x6).bind fun b21 =>
  (fX8_mark E b21 v1 v2 z13.2).bind fun z21 =>
  (gchk z21.2 3 v1).bind fun b30 =>
  (fX3_isAt E b30 z13.1 3 z21.2).bind fun z30 =>
  if ¬ z30.1 = 0 then (
    fX1_handsOver_b48 E v1 v2 z13.1 z21.1 z30.2)
  else (
    (gchk z30.2 3 v1).bind fun b40 =>
    (fX3_isAt E b40 z13.1 4 z30.2).bind fun z40 =>
    if ¬ z40.1 = 0 then (
      fX1_handsOver_b48 E v1 v2 z13.1 z21.1 z40.2)
    else (
      if (0 : Int32) = 0 ∨ (0 : Int32) = 1 then some (0, z40.2) else none))
def fX1_mayLie_b44 (E : g_E) (G : g_G) : Option (Int32 × g_G) :=
  if (1 : Int32) = 0 ∨ (1 : Int32) = 1 then some (1, G) else none
def fX1_mayLie (E : g_E) (t : Nat) (v1 : Option Nat) (v2 : Int32) (v3 : Int32) (G : g_G) : Option (Int32 × g_G) :=
  (grR G 3 3 v1 3).bind fun x1 =>
  (gaR G 122 x1 v2).bind fun x5 =>
  (gcast G 15 15 x5).bind fun x6 =>
  (grI G 15 15 x6 0).bind fun x13 =>
  if x13 = (2 : Int32) then (
    fX1_mayLie_b44 E G)
  else (
    (grI G 15 15 x6 0).bind fun x22 =>
    if ¬ x22 = 0 then (
      if (0 : Int32) = 0 ∨ (0 : Int32) = 1 then some (0, G) else none)
    else (
      (gchk G 15 x6).bind fun b34 =>
      (fX9_to E b34 v1 v2 G).bind fun z34 =>
      (gchk z34.2 3 v1).bind fun b37 =>
      (fX3_sent E b37 v2 z34.1 z34.2).bind fun z37 =>
      if v3 ≤ z37.1 then (
        if (0 : Int32) = 0 ∨ (0 : Int32) = 1 then some (0, z37.2) else none)
      else (
        fX1_mayLie_b44 E z37.2)))
def fX1_moves_b91 (E : g_E) (v4 : Int32) (G : g_G) : Option (Int32 × g_G) :=
  some (v4, G)
def fX1_moves_b194 (E : g_E) (k145 : (Option Nat) → Int32 → Int32 → Int32 → g_G → Option (Int32 × g_G)) (v1 : Option Nat) (v2 : Int32) (v5 : Int32) (v6 : Int32) (G : g_G) : Option (Int32 × g_G) :=
  k145 v1 v2 v5 (v6 + 1) G
def fX1_moves_b145 (E : g_E) : Nat → (Option Nat) → Int32 → Int32 → Int32 → g_G → Option (Int32 × g_G)
  | 0, _, _, _, _, _ => none
  | n + 1, v1, v2, v5, v6, G =>
    (grI G 3 3 v1 0).bind fun x148 =>
    if x148 ≤ v6 then (
      some (v5, G))
    else (
      if v6 = v2 then (
        fX1_moves_b194 E (fX1_moves_b145 E n) v1 v2 v5 v6 G)
      else (
        (grR G 3 3 v1 3).bind fun x165 =>
        (gaR G 122 x165 v2).bind fun x169 =>
        (gcast G 16 16 x169).bind fun x170 =>
        (gchk G 16 x170).bind fun b175 =>
        (fX8_mark E b175 v1 v2 G).bind fun z175 =>
        (gchk z175.2 3 v1).bind fun b178 =>
        (fX3_first E b178 v6 v2 z175.1 z175.2).bind fun z178 =>
        if z178.1 = (-1 : Int32) then (
          fX1_moves_b194 E (fX1_moves_b145 E n) v1 v2 v5 v6 z178.2)
        else (
          fX1_moves_b194 E (fX1_moves_b145 E n) v1 v2 (v5 ||| (1 <<< (v6 &&& 31))) v6 z178.2)))
def fX1_moves (E : g_E) (t : Nat) (v1 : Option Nat) (v2 : Int32) (v3 : Int32) (G : g_G) : Option (Int32 × g_G) :=
  (gchk G 3 v1).bind fun b2 =>
  (fX3_hasEnded E b2 v2 G).bind fun z2 =>
  if ¬ z2.1 = 0 then (
    some (0, z2.2))
  else (
    (grR z2.2 3 3 v1 4).bind fun x9 =>
    (gaI z2.2 102 x9 v2).bind fun x13 =>
    if x13 = 0 then (
      (grR z2.2 3 3 v1 3).bind fun x25 =>
      (gaR z2.2 122 x25 v2).bind fun x29 =>
      (grI z2.2 11 16 x29 0).bind fun x30 =>
      if x30 = 0 then (
        (gchk z2.2 1 (some t)).bind fun b76 =>
        (fX1_mayLie E b76 v1 v2 v3 z2.2).bind fun z76 =>
        if ¬ z76.1 = 0 then (
          fX1_moves_b91 E (1 <<< (v2 &&& 31)) z76.2)
        else (
          (gchk z76.2 1 (some t)).bind fun b85 =>
          (fX1_handsOver E b85 v1 v2 z76.2).bind fun z85 =>
          if z85.1 = 0 then (
            some (0, z85.2))
          else (
            fX1_moves_b91 E (1 <<< (v2 &&& 31)) z85.2)))
      else
      if x30 = 1 then (
        (gchk z2.2 1 (some t)).bind fun b76 =>
        (fX1_mayLie E b76 v1 v2 v3 z2.2).bind fun z76 =>
        if ¬ z76.1 = 0 then (
          fX1_moves_b91 E (1 <<< (v2 &&& 31)) z76.2)
        else (
          (gchk z76.2 1 (some t)).bind fun b85 =>
          (fX1_handsOver E b85 v1 v2 z76.2).bind fun z85 =>
          if z85.1 = 0 then (
            some (0, z85.2))
          else (
            fX1_moves_b91 E (1 <<< (v2 &&& 31)) z85.2)))
      else
      if x30 = 2 then (
        (gchk z2.2 1 (some t)).bind fun b76 =>
        (fX1_mayLie E b76 v1 v2 v3 z2.2).bind fun z76 =>
        if ¬ z76.1 = 0 then (
          fX1_moves_b91 E (1 <<< (v2 &&& 31)) z76.2)
        else (
          (gchk z76.2 1 (some t)).bind fun b85 =>
          (fX1_handsOver E b85 v1 v2 z76.2).bind fun z85 =>
          if z85.1 = 0 then (
            some (0, z85.2))
          else (
            fX1_moves_b91 E (1 <<< (v2 &&& 31)) z85.2)))
      else
      if x30 = 3 then (
        (grR z2.2 3 3 v1 3).bind fun x99 =>
        (gaR z2.2 122 x99 v2).bind fun x103 =>
        (gcast z2.2 16 16 x103).bind fun x104 =>
        (gchk z2.2 16 x104).bind fun b114 =>
        (fX13_of E b114 v1 v2 z2.2).bind fun z114 =>
        (gchk z114.2 16 x104).bind fun b122 =>
        (fX8_mark E b122 v1 v2 z114.2).bind fun z122 =>
        (gchk z122.2 3 v1).bind fun b125 =>
        (fX3_first E b125 z114.1 v2 z122.1 z122.2).bind fun z125 =>
        if ¬ z125.1 = (-1 : Int32) then (
          some ((1 <<< (v2 &&& 31)), z125.2))
        else (
          some (0, z125.2)))
      else
      if x30 = 4 then (
        fX1_moves_b145 E gFU v1 v2 0 0 z2.2)
      else
      if x30 = 5 then (
        (gchk z2.2 3 v1).bind fun b205 =>
        (fX3_begun E b205 v2 z2.2).bind fun z205 =>
        if ¬ z205.1 = 0 then (
          some (0, z205.2))
        else (
          some ((1 <<< (v2 &&& 31)), z205.2)))
      else
      (
        if ¬ v2 = 0 then (
          some (0, z2.2))
        else (
          (grR z2.2 3 3 v1 3).bind fun x225 =>
          (gaR z2.2 122 x225 v2).bind fun x229 =>
          (grI z2.2 11 16 x229 0).bind fun x230 =>
          (gchk z2.2 1 (some t)).bind fun b233 =>
          (fX1_areAllAt E b233 v1 x230 z2.2).bind fun z233 =>
          if z233.1 = 0 then (
            some (0, z233.2))
          else (
            some ((1 <<< (v2 &&& 31)), z233.2)))))
    else (
      some (0, z2.2)))
def fX1_notes_b38 (E : g_E) (t : Nat) (v1 : Option Nat) (v2 : Int32) (v4 : Int32) (G : g_G) : Option (g_G) :=
  (grR G 3 3 v1 3).bind fun x39 =>
  (gaR G 122 x39 v2).bind fun x43 =>
  (grI G 11 16 x43 0).bind fun x44 =>
  if (2 : Int32) < x44 then (
    some G)
  else (
    (gchk G 1 (some t)).bind fun b56 =>
    (fX1_mayLie E b56 v1 v2 v4 G).bind fun z56 =>
    if z56.1 = 0 then (
      (grR z56.2 3 3 v1 3).bind fun x64 =>
      (gaR z56.2 122 x64 v2).bind fun x68 =>
      (gcast z56.2 15 15 x68).bind fun x69 =>
      (gchk z56.2 15 x69).bind fun b74 =>
      (fX9_to E b74 v1 v2 z56.2).bind fun z74 =>
      (grR z74.2 3 3 v1 3).bind fun x80 =>
      (gaR z74.2 122 x80 z74.1).bind fun x85 =>
      (grI z74.2 11 16 x85 0).bind fun x86 =>
      if ¬ x86 = (4 : Int32) then (
        some z74.2)
      else (
        (grR z74.2 1 1 (some t) 17).bind fun x94 =>
        (grR z74.2 3 3 v1 3).bind fun x100 =>
        (gaR z74.2 122 x100 z74.1).bind fun x105 =>
        (grI z74.2 11 16 x105 1).bind fun x106 =>
        (gaI z74.2 100 x94 ((8 * x106) + z74.1)).bind fun x114 =>
        (gsaI E z74.2 x94 ((8 * x106) + z74.1) (x114 ||| (1 <<< (v2 &&& 31)))).bind fun G119 =>
        some G119))
    else (
      some z56.2))
def fX1_notes (E : g_E) (t : Nat) (v1 : Option Nat) (v2 : Int32) (v3 : Int32) (v4 : Int32) (G : g_G) : Option (g_G) :=
  (grR G 3 3 v1 3).bind fun x1 =>
  (gaR G 122 x1 v2).bind fun x5 =>
  (grI G 11 16 x5 0).bind fun x6 =>
  if ¬ x6 = (4 : Int32) then (
    fX1_notes_b38 E t v1 v2 v4 G)
  else (
    (grR G 1 1 (some t) 17).bind fun x14 =>
    (grR G 3 3 v1 3).bind fun x20 =>
    (gaR G 122 x20 v2).bind fun x24 =>
    (grI G 11 16 x24 1).bind fun x25 =>
    (gaI G 100 x14 ((8 * x25) + v2)).bind fun x32 =>
    (gsaI E G x14 ((8 * x25) + v2) (x32 ||| (1 <<< (v3 &&& 31)))).bind fun G37 =>
    fX1_notes_b38 E t v1 v2 v4 G37)
def fX1_waitsFor_b160 (E : g_E) (k124 : (Option Nat) → Int32 → Int32 → Int32 → g_G → Option (Int32 × g_G)) (v1 : Option Nat) (v2 : Int32) (v4 : Int32) (v5 : Int32) (G : g_G) : Option (Int32 × g_G) :=
  k124 v1 v2 v4 (v5 + 1) G
def fX1_waitsFor_b124 (E : g_E) : Nat → (Option Nat) → Int32 → Int32 → Int32 → g_G → Option (Int32 × g_G)
  | 0, _, _, _, _, _ => none
  | n + 1, v1, v2, v4, v5, G =>
    (grI G 3 3 v1 0).bind fun x127 =>
    if x127 ≤ v5 then (
      some (v4, G))
    else (
      (grR G 3 3 v1 3).bind fun x137 =>
      (gaR G 122 x137 v2).bind fun x141 =>
      (grI G 11 16 x141 0).bind fun x142 =>
      (gchk G 3 v1).bind fun b145 =>
      (fX3_isAt E b145 v5 x142 G).bind fun z145 =>
      if ¬ z145.1 = 0 then (
        fX1_waitsFor_b160 E (fX1_waitsFor_b124 E n) v1 v2 v4 v5 z145.2)
      else (
        fX1_waitsFor_b160 E (fX1_waitsFor_b124 E n) v1 v2 (v4 ||| (1 <<< (v5 &&& 31))) v5 z145.2))
def fX1_waitsFor (E : g_E) (t : Nat) (v1 : Option Nat) (v2 : Int32) (G : g_G) : Option (Int32 × g_G) :=
  (gchk G 3 v1).bind fun b2 =>
  (fX3_hasEnded E b2 v2 G).bind fun z2 =>
  if ¬ z2.1 = 0 then (
    some (0, z2.2))
  else (
    (grR z2.2 3 3 v1 4).bind fun x9 =>
    (gaI z2.2 102 x9 v2).bind fun x13 =>
    if x13 = 0 then (
      (gchk z2.2 3 v1).bind fun b20 =>
      (fX3_bits E b20 z2.2).bind fun z20 =>
      (grR z20.2 3 3 v1 3).bind fun x31 =>
      (gaR z20.2 122 x31 v2).bind fun x35 =>
      (grI z20.2 11 16 x35 0).bind fun x36 =>
      if x36 = 0 then (
        (grR z20.2 3 3 v1 3).bind fun x78 =>
        (gaR z20.2 122 x78 v2).bind fun x82 =>
        (gcast z20.2 15 15 x82).bind fun x83 =>
        (gchk z20.2 15 x83).bind fun b88 =>
        (fX9_to E b88 v1 v2 z20.2).bind fun z88 =>
        some ((1 <<< (z88.1 &&& 31)), z88.2))
      else
      if x36 = 1 then (
        (grR z20.2 3 3 v1 3).bind fun x78 =>
        (gaR z20.2 122 x78 v2).bind fun x82 =>
        (gcast z20.2 15 15 x82).bind fun x83 =>
        (gchk z20.2 15 x83).bind fun b88 =>
        (fX9_to E b88 v1 v2 z20.2).bind fun z88 =>
        some ((1 <<< (z88.1 &&& 31)), z88.2))
      else
      if x36 = 2 then (
        (grR z20.2 3 3 v1 3).bind fun x78 =>
        (gaR z20.2 122 x78 v2).bind fun x82 =>
        (gcast z20.2 15 15 x82).bind fun x83 =>
        (gchk z20.2 15 x83).bind fun b88 =>
        (fX9_to E b88 v1 v2 z20.2).bind fun z88 =>
        some ((1 <<< (z88.1 &&& 31)), z88.2))
      else
      if x36 = 3 then (
        (grR z20.2 3 3 v1 3).bind fun x95 =>
        (gaR z20.2 122 x95 v2).bind fun x99 =>
        (gcast z20.2 16 16 x99).bind fun x100 =>
        (gchk z20.2 16 x100).bind fun b105 =>
        (fX13_of E b105 v1 v2 z20.2).bind fun z105 =>
        some ((1 <<< (z105.1 &&& 31)), z105.2))
      else
      if x36 = 4 then (
        some ((z20.1 &&& ((1 <<< (v2 &&& 31)) ^^^ (-1))), z20.2))
      else
      if x36 = 5 then (
        (gchk z20.2 3 v1).bind fun b114 =>
        (fX3_begun E b114 v2 z20.2).bind fun z114 =>
        some (z114.1, z114.2))
      else
      (
        fX1_waitsFor_b124 E gFU v1 v2 0 0 z20.2))
    else (
      some (0, z2.2)))
def fX4_areAll_b2 (E : g_E) : Nat → Nat → Int32 → Int32 → g_G → Option (Int32 × g_G)
  | 0, _, _, _, _ => none
  | n + 1, t, v1, v2, G =>
    (grI G 4 4 (some t) 3).bind fun x4 =>
    if x4 ≤ v2 then (
      if (1 : Int32) = 0 ∨ (1 : Int32) = 1 then some (1, G) else none)
    else (
      (gchk G 4 (some t)).bind fun b13 =>
      (fX4_isAt E b13 v2 v1 G).bind fun z13 =>
      if ¬ z13.1 = 0 then (
        fX4_areAll_b2 E n t v1 (v2 + 1) z13.2)
      else (
        if (0 : Int32) = 0 ∨ (0 : Int32) = 1 then some (0, z13.2) else none))
def fX4_areAll (E : g_E) (t : Nat) (v1 : Int32) (G : g_G) : Option (Int32 × g_G) :=
  fX4_areAll_b2 E gFU t v1 0 G
def fX4_come_b186 (E : g_E) (k5 : Nat → Int32 → Int32 → Int32 → g_G → Option (g_G)) (t : Nat) (v1 : Int32) (v4 : Int32) (v5 : Int32) (G : g_G) : Option (g_G) :=
  k5 t v1 v5 v4 G
def fX4_come_b184 (E : g_E) (k5 : Nat → Int32 → Int32 → Int32 → g_G → Option (g_G)) (t : Nat) (v1 : Int32) (v4 : Int32) (s0 : Int32) (G : g_G) : Option (g_G) :=
  fX4_come_b186 E k5 t v1 v4 s0 G
def fX4_come_b169 (E : g_E) (k5 : Nat → Int32 → Int32 → Int32 → g_G → Option (g_G)) (t : Nat) (v1 : Int32) (v4 : Int32) (v5 : Int32) (s0 : Int32) (G : g_G) : Option (g_G) :=
  if ¬ s0 = (-1 : Int32) then (
    fX4_come_b184 E k5 t v1 v4 s0 G)
  else (
    fX4_come_b184 E k5 t v1 v4 v5 G)
def fX4_come_b138 (E : g_E) (k5 : Nat → Int32 → Int32 → Int32 → g_G → Option (g_G)) (t : Nat) (v1 : Int32) (v3 : Int32) (v4 : Int32) (v5 : Int32) (v6 : Int32) (G : g_G) : Option (g_G) :=
  (grR G 4 4 (some t) 24).bind fun x139 =>
  (gaI G 100 x139 v3).bind fun x143 =>
  if ¬ x143 = (10 : Int32) then (
    fX4_come_b186 E k5 t v1 v4 v5 G)
  else (
    if v6 = 0 then (
      (grR G 4 4 (some t) 31).bind fun x164 =>
      (gaI G 100 x164 v3).bind fun x168 =>
      fX4_come_b169 E k5 t v1 v4 v5 x168 G)
    else (
      (grR G 4 4 (some t) 30).bind fun x155 =>
      (gaI G 100 x155 v3).bind fun x159 =>
      fX4_come_b169 E k5 t v1 v4 v5 x159 G))
def fX4_come_b107 (E : g_E) (k5 : Nat → Int32 → Int32 → Int32 → g_G → Option (g_G)) (t : Nat) (v1 : Int32) (v3 : Int32) (v4 : Int32) (v5 : Int32) (v6 : Int32) (G : g_G) : Option (g_G) :=
  (grR G 4 4 (some t) 24).bind fun x108 =>
  (gaI G 100 x108 v3).bind fun x112 =>
  if ¬ x112 = (9 : Int32) then (
    fX4_come_b138 E k5 t v1 v3 v4 v5 v6 G)
  else (
    (gchk G 4 (some t)).bind fun b128 =>
    (fX4_own E b128 v1 7 G).bind fun z128 =>
    (gchk z128.2 4 (some t)).bind fun b135 =>
    (fX4_put E b135 v1 7 ((31 * z128.1) + v6) z128.2).bind fun z135 =>
    fX4_come_b138 E k5 t v1 v3 v4 v5 v6 z135)
def fX4_come_b47 (E : g_E) (k5 : Nat → Int32 → Int32 → Int32 → g_G → Option (g_G)) (t : Nat) (v1 : Int32) (v3 : Int32) (s0 : Int32) (G : g_G) : Option (g_G) :=
  if ¬ s0 = 0 then (
    (gchk G 4 (some t)).bind fun b59 =>
    (fX4_following E b59 v3 G).bind fun z59 =>
    (grR z59.2 4 4 (some t) 32).bind fun x65 =>
    (gaI z59.2 102 x65 v3).bind fun x69 =>
    if ¬ x69 = 0 then (
      fX4_come_b186 E k5 t v1 s0 z59.1 z59.2)
    else (
      (gchk z59.2 4 (some t)).bind fun b76 =>
      (fX4_asked E b76 v1 0 z59.2).bind fun z76 =>
      (grR z76.2 4 4 (some t) 24).bind fun x82 =>
      (gaI z76.2 100 x82 v3).bind fun x86 =>
      if ¬ x86 = (8 : Int32) then (
        fX4_come_b107 E k5 t v1 v3 s0 z59.1 z76.1 z76.2)
      else (
        (grR z76.2 4 4 (some t) 27).bind fun x96 =>
        (gaI z76.2 100 x96 v3).bind fun x100 =>
        (gchk z76.2 4 (some t)).bind fun b104 =>
        (fX4_put E b104 v1 (2 + x100) z76.1 z76.2).bind fun z104 =>
        fX4_come_b107 E k5 t v1 v3 s0 z59.1 z76.1 z104)))
  else (
    k5 t v1 v3 s0 G)
def fX4_come_b46 (E : g_E) (k5 : Nat → Int32 → Int32 → Int32 → g_G → Option (g_G)) (t : Nat) (v1 : Int32) (v3 : Int32) (G : g_G) : Option (g_G) :=
  fX4_come_b47 E k5 t v1 v3 0 G
def fX4_come_b42 (E : g_E) (k5 : Nat → Int32 → Int32 → Int32 → g_G → Option (g_G)) (t : Nat) (v1 : Int32) (v3 : Int32) (G : g_G) : Option (g_G) :=
  fX4_come_b47 E k5 t v1 v3 1 G
def fX4_come_b5 (E : g_E) : Nat → Nat → Int32 → Int32 → Int32 → g_G → Option (g_G)
  | 0, _, _, _, _, _ => none
  | n + 1, t, v1, v3, v4, G =>
    if v4 = 0 then (
      if v3 = (-1 : Int32) then (
        some G)
      else (
        (grR G 4 4 (some t) 24).bind fun x198 =>
        (gaI G 100 x198 v3).bind fun x202 =>
        if (3 : Int32) < x202 then (
          some G)
        else (
          (gchk G 4 (some t)).bind fun b209 =>
          (fX4_hasOther E b209 v1 G).bind fun z209 =>
          if ¬ z209.1 = 0 then (
            some z209.2)
          else (
            (gchk z209.2 4 (some t)).bind fun b219 =>
            (fX4_put E b219 v1 1 1 z209.2).bind fun z219 =>
            some z219))))
    else (
      (gchk G 4 (some t)).bind fun b14 =>
      (fX4_put E b14 v1 0 v3 G).bind fun z14 =>
      if v3 = (-1 : Int32) then (
        fX4_come_b46 E (fX4_come_b5 E n) t v1 v3 z14)
      else (
        (grR z14 4 4 (some t) 32).bind fun x23 =>
        (gaI z14 102 x23 v3).bind fun x27 =>
        if ¬ x27 = 0 then (
          fX4_come_b42 E (fX4_come_b5 E n) t v1 v3 z14)
        else (
          (grR z14 4 4 (some t) 24).bind fun x32 =>
          (gaI z14 100 x32 v3).bind fun x36 =>
          if x36 < (8 : Int32) then (
            fX4_come_b46 E (fX4_come_b5 E n) t v1 v3 z14)
          else (
            fX4_come_b42 E (fX4_come_b5 E n) t v1 v3 z14))))
def fX4_come (E : g_E) (t : Nat) (v1 : Int32) (v2 : Int32) (G : g_G) : Option (g_G) :=
  fX4_come_b5 E gFU t v1 v2 1 G
def fX4_goOn (E : g_E) (t : Nat) (v1 : Int32) (G : g_G) : Option (g_G) :=
  (gchk G 4 (some t)).bind fun b4 =>
  (fX4_own E b4 v1 0 G).bind fun z4 =>
  (gchk z4.2 4 (some t)).bind fun b7 =>
  (fX4_following E b7 z4.1 z4.2).bind fun z7 =>
  (gchk z7.2 4 (some t)).bind fun b14 =>
  (fX4_come E b14 v1 z7.1 z7.2).bind fun z14 =>
  some z14
def fX4_hands_b63 (E : g_E) (t : Nat) (v1 : Int32) (v2 : Int32) (v3 : Int32) (s0 : Int32) (G : g_G) : Option (Int32 × g_G) :=
  if s0 = 0 then (
    if (0 : Int32) = 0 ∨ (0 : Int32) = 1 then some (0, G) else none)
  else (
    (gchk G 4 (some t)).bind fun b73 =>
    (fX4_asked E b73 v2 1 G).bind fun z73 =>
    if ¬ z73.1 = v3 then (
      if (0 : Int32) = 0 ∨ (0 : Int32) = 1 then some (0, z73.2) else none)
    else (
      (gchk z73.2 4 (some t)).bind fun b84 =>
      (fX4_lying E b84 v1 v2 v3 z73.2).bind fun z84 =>
      if ¬ z84.1 = (-1 : Int32) then (
        if (0 : Int32) = 0 ∨ (0 : Int32) = 1 then some (0, z84.2) else none)
      else (
        if (1 : Int32) = 0 ∨ (1 : Int32) = 1 then some (1, z84.2) else none)))
def fX4_hands_b62 (E : g_E) (t : Nat) (v1 : Int32) (v2 : Int32) (v3 : Int32) (G : g_G) : Option (Int32 × g_G) :=
  fX4_hands_b63 E t v1 v2 v3 0 G
def fX4_hands_b58 (E : g_E) (t : Nat) (v1 : Int32) (v2 : Int32) (v3 : Int32) (G : g_G) : Option (Int32 × g_G) :=
  fX4_hands_b63 E t v1 v2 v3 1 G
def fX4_hands_b33 (E : g_E) (t : Nat) (v1 : Int32) (v2 : Int32) (v3 : Int32) (G : g_G) : Option (Int32 × g_G) :=
  (gchk G 4 (some t)).bind fun b36 =>
  (fX4_isAt E b36 v2 4 G).bind fun z36 =>
  if z36.1 = 0 then (
    fX4_hands_b62 E t v1 v2 v3 z36.2)
  else (
    (grI z36.2 4 4 (some t) 35).bind fun x43 =>
    if x43 = (-1 : Int32) then (
      fX4_hands_b58 E t v1 v2 v3 z36.2)
    else (
      (grI z36.2 4 4 (some t) 35).bind fun x51 =>
      if ¬ x51 = v1 then (
        fX4_hands_b62 E t v1 v2 v3 z36.2)
      else (
        fX4_hands_b58 E t v1 v2 v3 z36.2)))
def fX4_hands (E : g_E) (t : Nat) (v1 : Int32) (G : g_G) : Option (Int32 × g_G) :=
  (gchk G 4 (some t)).bind fun b3 =>
  (fX4_asked E b3 v1 0 G).bind fun z3 =>
  (gchk z3.2 4 (some t)).bind fun b10 =>
  (fX4_asked E b10 v1 1 z3.2).bind fun z10 =>
  (gchk z10.2 4 (some t)).bind fun b17 =>
  (fX4_isAt E b17 z3.1 3 z10.2).bind fun z17 =>
  if z17.1 = 0 then (
    fX4_hands_b33 E t v1 z3.1 z10.1 z17.2)
  else (
    (gchk z17.2 4 (some t)).bind fun b26 =>
    (fX4_asked E b26 z3.1 0 z17.2).bind fun z26 =>
    if z26.1 = v1 then (
      fX4_hands_b58 E t v1 z3.1 z10.1 z26.2)
    else (
      fX4_hands_b33 E t v1 z3.1 z10.1 z26.2))
def fX4_has (E : g_E) (t : Nat) (v1 : Int32) (v2 : Int32) (v3 : Int32) (v4 : Int32) (G : g_G) : Option (g_G) :=
  (gchk G 4 (some t)).bind fun b3 =>
  (fX4_own E b3 v1 0 G).bind fun z3 =>
  (grR z3.2 4 4 (some t) 27).bind fun x12 =>
  (gaI z3.2 100 x12 z3.1).bind fun x17 =>
  (gchk z3.2 4 (some t)).bind fun b20 =>
  (fX4_put E b20 v1 (2 + x17) v3 z3.2).bind fun z20 =>
  (gchk z20 4 (some t)).bind fun b28 =>
  (fX4_put E b28 v1 6 v2 z20).bind fun z28 =>
  (grR z28 4 4 (some t) 28).bind fun x34 =>
  (gaI z28 100 x34 z3.1).bind fun x39 =>
  if v4 ≤ x39 then (
    (gchk z28 4 (some t)).bind fun b55 =>
    (fX4_goOn E b55 v1 z28).bind fun z55 =>
    some z55)
  else (
    (gchk z28 4 (some t)).bind fun b47 =>
    (fX4_put E b47 v1 1 1 z28).bind fun z47 =>
    some z47)
def fX4_readPart_b84 (E : g_E) (fM : g_E → Nat → Int32 → g_G → Option (g_G)) (G : g_G) : Option (g_G) :=
  some G
def fX4_readPart_b65 (E : g_E) (fM : g_E → Nat → Int32 → g_G → Option (g_G)) (t : Nat) (v2 : Int32) (G : g_G) : Option (g_G) :=
  (gchk G 4 (some t)).bind fun b70 =>
  (fX4_emit E b70 (20 + v2) G).bind fun z70 =>
  (grI z70 4 4 (some t) 18).bind fun x74 =>
  if ¬ x74 = 0 then (
    fX4_readPart_b84 E fM z70)
  else (
    (gchk z70 4 (some t)).bind fun b81 =>
    (fX4_stepOn E b81 z70).bind fun z81 =>
    fX4_readPart_b84 E fM z81)
def fX4_readPart (E : g_E) (fM : g_E → Nat → Int32 → g_G → Option (g_G)) (t : Nat) (v1 : Int32) (G : g_G) : Option (g_G) :=
  (grI G 4 4 (some t) 18).bind fun x1 =>
  if x1 = 0 then (
    (grI G 4 4 (some t) 13).bind fun x9 =>
    if ¬ x9 = (2 : Int32) then (
      (grI G 4 4 (some t) 13).bind fun x39 =>
      if ¬ x39 = (1 : Int32) then (
        (gchk G 4 (some t)).bind fun b90 =>
        (fX4_isSign E b90 40 G).bind fun z90 =>
        if z90.1 = 0 then (
          (gchk z90.2 4 (some t)).bind fun b118 =>
          (fX4_wrong E b118 1 z90.2).bind fun z118 =>
          some z118)
        else (
          (gchk z90.2 4 (some t)).bind fun b97 =>
          (fX4_stepOn E b97 z90.2).bind fun z97 =>
          (gchk z97 4 (some t)).bind fun b104 =>
          (fM E b104 (v1 + 1) z97).bind fun z104 =>
          (gchk z104 4 (some t)).bind fun b110 =>
          (fX4_need E b110 41 z104).bind fun z110 =>
          some z110))
      else (
        (grR G 4 4 (some t) 1).bind fun x48 =>
        (gchk G 4 (some t)).bind fun b51 =>
        (fX4_which E b51 x48 G).bind fun z51 =>
        if ¬ z51.1 = (-1 : Int32) then (
          fX4_readPart_b65 E fM t z51.1 z51.2)
        else (
          (gchk z51.2 4 (some t)).bind fun b62 =>
          (fX4_wrong E b62 3 z51.2).bind fun z62 =>
          fX4_readPart_b65 E fM t z51.1 z62)))
    else (
      (gchk G 4 (some t)).bind fun b21 =>
      (fX4_readNumber E b21 0 9999 G).bind fun z21 =>
      (gchk z21.2 4 (some t)).bind fun b27 =>
      (fX4_emit E b27 0 z21.2).bind fun z27 =>
      (gchk z27 4 (some t)).bind fun b32 =>
      (fX4_emit E b32 z21.1 z27).bind fun z32 =>
      some z32))
  else (
    some G)
def fX4_readProduct_b37 (E : g_E) (fM : g_E → Nat → Int32 → g_G → Option (g_G)) (k5 : Nat → Int32 → g_G → Option (g_G)) (t : Nat) (v1 : Int32) (s0 : Int32) (G : g_G) : Option (g_G) :=
  (gchk G 4 (some t)).bind fun b39 =>
  (fX4_stepOn E b39 G).bind fun z39 =>
  (gchk z39 4 (some t)).bind fun b44 =>
  (fX4_readPart E fM b44 v1 z39).bind fun z44 =>
  (gchk z44 4 (some t)).bind fun b49 =>
  (fX4_emit E b49 s0 z44).bind fun z49 =>
  k5 t v1 z49
def fX4_readProduct_b23 (E : g_E) (fM : g_E → Nat → Int32 → g_G → Option (g_G)) (k5 : Nat → Int32 → g_G → Option (g_G)) (t : Nat) (v1 : Int32) (G : g_G) : Option (g_G) :=
  (gchk G 4 (some t)).bind fun b26 =>
  (fX4_isSign E b26 42 G).bind fun z26 =>
  if z26.1 = 0 then (
    fX4_readProduct_b37 E fM k5 t v1 4 z26.2)
  else (
    fX4_readProduct_b37 E fM k5 t v1 3 z26.2)
def fX4_readProduct_b5 (E : g_E) (fM : g_E → Nat → Int32 → g_G → Option (g_G)) : Nat → Nat → Int32 → g_G → Option (g_G)
  | 0, _, _, _ => none
  | n + 1, t, v1, G =>
    (gchk G 4 (some t)).bind fun b8 =>
    (fX4_isSign E b8 42 G).bind fun z8 =>
    if ¬ z8.1 = 0 then (
      fX4_readProduct_b23 E fM (fX4_readProduct_b5 E fM n) t v1 z8.2)
    else (
      (gchk z8.2 4 (some t)).bind fun b17 =>
      (fX4_isSign E b17 47 z8.2).bind fun z17 =>
      if z17.1 = 0 then (
        some z17.2)
      else (
        fX4_readProduct_b23 E fM (fX4_readProduct_b5 E fM n) t v1 z17.2))
def fX4_readProduct (E : g_E) (fM : g_E → Nat → Int32 → g_G → Option (g_G)) (t : Nat) (v1 : Int32) (G : g_G) : Option (g_G) :=
  (gchk G 4 (some t)).bind fun b2 =>
  (fX4_readPart E fM b2 v1 G).bind fun z2 =>
  fX4_readProduct_b5 E fM gFU t v1 z2
def fX4_readSum_b37 (E : g_E) (fM : g_E → Nat → Int32 → g_G → Option (g_G)) (k5 : Nat → Int32 → g_G → Option (g_G)) (t : Nat) (v1 : Int32) (s0 : Int32) (G : g_G) : Option (g_G) :=
  (gchk G 4 (some t)).bind fun b39 =>
  (fX4_stepOn E b39 G).bind fun z39 =>
  (gchk z39 4 (some t)).bind fun b44 =>
  (fX4_readProduct E fM b44 v1 z39).bind fun z44 =>
  (gchk z44 4 (some t)).bind fun b49 =>
  (fX4_emit E b49 s0 z44).bind fun z49 =>
  k5 t v1 z49
def fX4_readSum_b23 (E : g_E) (fM : g_E → Nat → Int32 → g_G → Option (g_G)) (k5 : Nat → Int32 → g_G → Option (g_G)) (t : Nat) (v1 : Int32) (G : g_G) : Option (g_G) :=
  (gchk G 4 (some t)).bind fun b26 =>
  (fX4_isSign E b26 43 G).bind fun z26 =>
  if z26.1 = 0 then (
    fX4_readSum_b37 E fM k5 t v1 2 z26.2)
  else (
    fX4_readSum_b37 E fM k5 t v1 1 z26.2)
def fX4_readSum_b5 (E : g_E) (fM : g_E → Nat → Int32 → g_G → Option (g_G)) : Nat → Nat → Int32 → g_G → Option (g_G)
  | 0, _, _, _ => none
  | n + 1, t, v1, G =>
    (gchk G 4 (some t)).bind fun b8 =>
    (fX4_isSign E b8 43 G).bind fun z8 =>
    if ¬ z8.1 = 0 then (
      fX4_readSum_b23 E fM (fX4_readSum_b5 E fM n) t v1 z8.2)
    else (
      (gchk z8.2 4 (some t)).bind fun b17 =>
      (fX4_isSign E b17 45 z8.2).bind fun z17 =>
      if z17.1 = 0 then (
        some z17.2)
      else (
        fX4_readSum_b23 E fM (fX4_readSum_b5 E fM n) t v1 z17.2))
def fX4_readSum (E : g_E) (fM : g_E → Nat → Int32 → g_G → Option (g_G)) (t : Nat) (v1 : Int32) (G : g_G) : Option (g_G) :=
  (gchk G 4 (some t)).bind fun b2 =>
  (fX4_readProduct E fM b2 v1 G).bind fun z2 =>
  fX4_readSum_b5 E fM gFU t v1 z2
def fX4_readVar_b60 (E : g_E) (t : Nat) (v1 : Int32) (G : g_G) : Option (Int32 × g_G) :=
  (grI G 4 4 (some t) 18).bind fun x61 =>
  if ¬ x61 = 0 then (
    some (v1, G))
  else (
    (gchk G 4 (some t)).bind fun b68 =>
    (fX4_stepOn E b68 G).bind fun z68 =>
    some (v1, z68))
def fX4_readVar_b29 (E : g_E) (t : Nat) (s0 : Int32) (G : g_G) : Option (Int32 × g_G) :=
  (grI G 4 4 (some t) 13).bind fun x31 =>
  if x31 = (1 : Int32) then (
    (fX4_isIn E s0 0 3 G).bind fun z49 =>
    if ¬ z49.1 = 0 then (
      fX4_readVar_b60 E t s0 z49.2)
    else (
      (gchk z49.2 4 (some t)).bind fun b57 =>
      (fX4_wrong E b57 3 z49.2).bind fun z57 =>
      fX4_readVar_b60 E t s0 z57))
  else (
    (gchk G 4 (some t)).bind fun b40 =>
    (fX4_wrong E b40 1 G).bind fun z40 =>
    fX4_readVar_b60 E t s0 z40)
def fX4_readVar (E : g_E) (t : Nat) (G : g_G) : Option (Int32 × g_G) :=
  (grI G 4 4 (some t) 18).bind fun x1 =>
  if x1 = 0 then (
    (grI G 4 4 (some t) 13).bind fun x10 =>
    if ¬ x10 = (1 : Int32) then (
      fX4_readVar_b29 E t (-1) G)
    else (
      (grR G 4 4 (some t) 1).bind fun x19 =>
      (gchk G 4 (some t)).bind fun b22 =>
      (fX4_which E b22 x19 G).bind fun z22 =>
      fX4_readVar_b29 E t z22.1 z22.2))
  else (
    some (0, G))
def fX4_take_b95 (E : g_E) (t : Nat) (v1 : Int32) (v2 : Int32) (v3 : Int32) (v5 : Int32) (v6 : Int32) (G : g_G) : Option (g_G) :=
  (gchk G 4 (some t)).bind fun b97 =>
  (fX4_takeAway E b97 v3 G).bind fun z97 =>
  (gchk z97 4 (some t)).bind fun b107 =>
  (fX4_has E b107 v1 v2 v5 v6 z97).bind fun z107 =>
  some z107
def fX4_take_b46 (E : g_E) (t : Nat) (v1 : Int32) (v2 : Int32) (v3 : Int32) (v5 : Int32) (v6 : Int32) (s0 : Int32) (G : g_G) : Option (g_G) :=
  (grR G 4 4 (some t) 39).bind fun x51 =>
  (gaI G 100 x51 v3).bind fun x55 =>
  (gchk G 4 (some t)).bind fun b56 =>
  (fX4_upTo E b56 v1 x55 G).bind fun z56 =>
  (grR z56 4 4 (some t) 36).bind fun x60 =>
  (gaI z56 100 x60 v1).bind fun x65 =>
  (gsaI E z56 x60 v1 (x65 + 1)).bind fun G68 =>
  if s0 = 0 then (
    fX4_take_b95 E t v1 v2 v3 v5 v6 G68)
  else (
    (grR G68 4 4 (some t) 38).bind fun x75 =>
    (grR G68 4 4 (some t) 38).bind fun x80 =>
    (gaI G68 100 x80 v2).bind fun x84 =>
    (grR G68 4 4 (some t) 36).bind fun x86 =>
    (gaI G68 100 x86 v1).bind fun x90 =>
    (gsaI E G68 x75 v2 (if x84 < x90 then x90 else x84)).bind fun G94 =>
    fX4_take_b95 E t v1 v2 v3 v5 v6 G94)
def fX4_take (E : g_E) (t : Nat) (v1 : Int32) (v2 : Int32) (v3 : Int32) (G : g_G) : Option (g_G) :=
  (fX4_wordAt E v3 G).bind fun z1 =>
  (grR z1.2 4 4 (some t) 33).bind fun x7 =>
  (gaI z1.2 100 x7 (z1.1 + 3)).bind fun x14 =>
  (grR z1.2 4 4 (some t) 33).bind fun x18 =>
  (gaI z1.2 100 x18 (z1.1 + 4)).bind fun x25 =>
  (grR z1.2 4 4 (some t) 33).bind fun x29 =>
  (gaI z1.2 100 x29 (z1.1 + 5)).bind fun x36 =>
  if ¬ x36 = (1 : Int32) then (
    fX4_take_b46 E t v1 v2 v3 x14 x25 0 z1.2)
  else (
    fX4_take_b46 E t v1 v2 v3 x14 x25 1 z1.2)
def fX4_together_b120 (E : g_E) : Nat → Nat → Int32 → g_G → Option (g_G)
  | 0, _, _, _ => none
  | n + 1, t, v4, G =>
    (grI G 4 4 (some t) 3).bind fun x123 =>
    if x123 ≤ v4 then (
      some G)
    else (
      (gchk G 4 (some t)).bind fun b132 =>
      (fX4_goOn E b132 v4 G).bind fun z132 =>
      fX4_together_b120 E n t (v4 + 1) z132)
def fX4_together_b111 (E : g_E) (k57 : Nat → Int32 → Int32 → Int32 → Int32 → g_G → Option (g_G)) (t : Nat) (v1 : Int32) (v2 : Int32) (v3 : Int32) (v4 : Int32) (G : g_G) : Option (g_G) :=
  k57 t v1 v2 v3 (v4 + 1) G
def fX4_together_b57 (E : g_E) : Nat → Nat → Int32 → Int32 → Int32 → Int32 → g_G → Option (g_G)
  | 0, _, _, _, _, _, _ => none
  | n + 1, t, v1, v2, v3, v4, G =>
    (grI G 4 4 (some t) 3).bind fun x60 =>
    if x60 ≤ v4 then (
      fX4_together_b120 E gFU t 0 G)
    else (
      (gchk G 4 (some t)).bind fun b70 =>
      (fX4_upTo E b70 v4 v2 G).bind fun z70 =>
      (grR z70 4 4 (some t) 36).bind fun x74 =>
      (gaI z70 100 x74 v4).bind fun x80 =>
      (gsaI E z70 x74 v4 (x80 + 1)).bind fun G83 =>
      if ¬ v1 = (7 : Int32) then (
        fX4_together_b111 E (fX4_together_b57 E n) t v1 v2 v3 v4 G83)
      else (
        (grR G83 4 4 (some t) 27).bind fun x95 =>
        (gchk G83 4 (some t)).bind fun b102 =>
        (fX4_own E b102 v4 0 G83).bind fun z102 =>
        (gaI z102.2 100 x95 z102.1).bind fun x105 =>
        (gchk z102.2 4 (some t)).bind fun b108 =>
        (fX4_put E b108 v4 (2 + x105) v3 z102.2).bind fun z108 =>
        fX4_together_b111 E (fX4_together_b57 E n) t v1 v2 v3 v4 z108))
def fX4_together_b46 (E : g_E) (k7 : Nat → Int32 → Int32 → Int32 → Int32 → g_G → Option (g_G)) (t : Nat) (v1 : Int32) (v2 : Int32) (v4 : Int32) (s0 : Int32) (s1 : Int32) (G : g_G) : Option (g_G) :=
  k7 t v1 v2 (s0 + s1) (v4 + 1) G
def fX4_together_b7 (E : g_E) : Nat → Nat → Int32 → Int32 → Int32 → Int32 → g_G → Option (g_G)
  | 0, _, _, _, _, _, _ => none
  | n + 1, t, v1, v2, v3, v4, G =>
    (grI G 4 4 (some t) 3).bind fun x10 =>
    if x10 ≤ v4 then (
      fX4_together_b57 E gFU t v1 v2 v3 0 G)
    else (
      (grR G 4 4 (some t) 36).bind fun x18 =>
      (gaI G 100 x18 v4).bind fun x23 =>
      if ¬ v1 = (7 : Int32) then (
        fX4_together_b46 E (fX4_together_b7 E n) t v1 (if v2 < x23 then x23 else v2) v4 v3 0 G)
      else (
        (gchk G 4 (some t)).bind fun b39 =>
        (fX4_asked E b39 v4 0 G).bind fun z39 =>
        fX4_together_b46 E (fX4_together_b7 E n) t v1 (if v2 < x23 then x23 else v2) v4 v3 z39.1 z39.2))
def fX4_together (E : g_E) (t : Nat) (v1 : Int32) (G : g_G) : Option (g_G) :=
  fX4_together_b7 E gFU t v1 0 0 0 G
def fX9_comes_b24 (E : g_E) (t : Nat) (v1 : Option Nat) (v2 : Int32) (s0 : Option Nat) (s1 : Int32) (s2 : Int32) (G : g_G) : Option (Option Nat × g_G) :=
  (gsaZ E G s0 s1 s2).bind fun G24 =>
  (gchk G24 15 (some t)).bind fun b28 =>
  (fX7_comes E b28 v1 v2 G24).bind fun z28 =>
  some (z28.1, z28.2)
def fX9_comes (E : g_E) (t : Nat) (v1 : Option Nat) (v2 : Int32) (G : g_G) : Option (Option Nat × g_G) :=
  (grR G 3 3 v1 4).bind fun x1 =>
  (gchk G 15 (some t)).bind fun b10 =>
  (fX9_to E b10 v1 v2 G).bind fun z10 =>
  (fX7_isOther E v1 v2 z10.1 z10.2).bind fun z13 =>
  if ¬ z13.1 = 0 then (
    fX9_comes_b24 E t v1 v2 x1 v2 0 z13.2)
  else (
    fX9_comes_b24 E t v1 v2 x1 v2 1 z13.2)
def fV_comes (E : g_E) (r : Option Nat) (v1 : Option Nat) (v2 : Int32) (G : g_G) : Option (Option Nat × g_G) :=
  r.bind fun t => if gcl G t = 11 then fX7_comes E t v1 v2 G else if gcl G t = 12 then fX14_comes E t v1 v2 G else if gcl G t = 13 then fX15_comes E t v1 v2 G else if gcl G t = 14 then fX16_comes E t v1 v2 G else if gcl G t = 15 then fX9_comes E t v1 v2 G else if gcl G t = 16 then fX13_comes E t v1 v2 G else none
def fJ2_add_b38 (E : g_E) (t : Nat) (v1 : Int32) (v2 : Option Nat) (v3 : Int32) (v4 : Option Nat) (G : g_G) : Option (g_G) :=
  (gcopy E G v4 v1 v4 (v1 + 1) (v3 - v1)).bind fun G49 =>
  (gsaR E G49 120 v4 v1 v2).bind fun G56 =>
  (gpI E G56 17 17 (some t) 2 (v3 + 1)).bind fun G61 =>
  some G61
def fJ2_add (E : g_E) (t : Nat) (v1 : Int32) (v2 : Option Nat) (G : g_G) : Option (g_G) :=
  (gchk G 17 (some t)).bind fun b2 =>
  (fJ2_rangeCheckForAdd E b2 v1 G).bind fun z2 =>
  (grI z2 17 17 (some t) 0).bind fun x7 =>
  (gpI E z2 17 17 (some t) 0 (x7 + 1)).bind fun G12 =>
  (grI G12 17 17 (some t) 2).bind fun x16 =>
  (grR G12 17 17 (some t) 1).bind fun x22 =>
  (galen G12 x22).bind fun x28 =>
  if ¬ x16 = x28 then (
    fJ2_add_b38 E t v1 v2 x16 x22 G12)
  else (
    (gchk G12 17 (some t)).bind fun b33 =>
    (fJ2_grow E b33 G12).bind fun z33 =>
    fJ2_add_b38 E t v1 v2 x16 z33.1 z33.2)
def fJ2_add_3_b11 (E : g_E) (t : Nat) (v1 : Option Nat) (v2 : Option Nat) (v3 : Int32) (G : g_G) : Option (g_G) :=
  (gsaR E G 120 v2 v3 v1).bind fun G14 =>
  (gpI E G14 17 17 (some t) 2 (v3 + 1)).bind fun G19 =>
  some G19
def fJ2_add_3 (E : g_E) (t : Nat) (v1 : Option Nat) (v2 : Option Nat) (v3 : Int32) (G : g_G) : Option (g_G) :=
  (galen G v2).bind fun x2 =>
  if ¬ v3 = x2 then (
    fJ2_add_3_b11 E t v1 v2 v3 G)
  else (
    (gchk G 17 (some t)).bind fun b7 =>
    (fJ2_grow E b7 G).bind fun z7 =>
    fJ2_add_3_b11 E t v1 z7.1 v3 z7.2)
def fJ8_toString (E : g_E) (t : Nat) (G : g_G) : Option (Option Nat × g_G) :=
  (gnewO E G 19 4).bind fun z0 =>
  (fJ9_init E z0.1 (some t) z0.2).bind fun z5 =>
  some ((some z0.1), z5)
def fX1_endsWith_b131 (E : g_E) (t : Nat) (v2 : Option Nat) (v3 : Int32) (G : g_G) : Option (g_G) :=
  (grR G 1 1 (some t) 16).bind fun x132 =>
  (gchk G 17 x132).bind fun b137 =>
  (fJ2_add E b137 v3 v2 G).bind fun z137 =>
  some z137
def fX1_endsWith_b102 (E : g_E) (t : Nat) (v2 : Option Nat) (v3 : Int32) (G : g_G) : Option (g_G) :=
  if v3 ≤ 0 then (
    fX1_endsWith_b131 E t v2 v3 G)
  else (
    (grR G 1 1 (some t) 16).bind fun x107 =>
    (gchk G 17 x107).bind fun b113 =>
    (fJ2_get E b113 (v3 - 1) G).bind fun z113 =>
    (gcast z113.2 7 7 z113.1).bind fun x116 =>
    (grI z113.2 1 1 (some t) 0).bind fun x121 =>
    (gchk z113.2 7 x116).bind fun b124 =>
    (fX18_isLike E b124 v2 x121 z113.2).bind fun z124 =>
    if z124.1 = 0 then (
      fX1_endsWith_b131 E t v2 v3 z124.2)
    else (
      some z124.2))
def fX1_endsWith_b68 (E : g_E) : Nat → Nat → (Option Nat) → Int32 → g_G → Option (g_G)
  | 0, _, _, _, _ => none
  | n + 1, t, v2, v3, G =>
    if v3 ≤ 0 then (
      fX1_endsWith_b102 E t v2 v3 G)
    else (
      (grR G 1 1 (some t) 16).bind fun x74 =>
      (gchk G 17 x74).bind fun b80 =>
      (fJ2_get E b80 (v3 - 1) G).bind fun z80 =>
      (gcast z80.2 7 7 z80.1).bind fun x83 =>
      (grI z80.2 1 1 (some t) 0).bind fun x87 =>
      (gchk z80.2 7 v2).bind fun b90 =>
      (fX18_isAhead E b90 x83 x87 z80.2).bind fun z90 =>
      if z90.1 = 0 then (
        fX1_endsWith_b102 E t v2 v3 z90.2)
      else (
        fX1_endsWith_b68 E n t v2 (v3 + (-1)) z90.2))
def fX1_endsWith_b34 (E : g_E) : Nat → Nat → (Option Nat) → (Option Nat) → Int32 → g_G → Option (g_G)
  | 0, _, _, _, _, _ => none
  | n + 1, t, v1, v2, v3, G =>
    (grI G 1 1 (some t) 0).bind fun x36 =>
    if x36 ≤ v3 then (
      (grR G 1 1 (some t) 16).bind fun x61 =>
      (gchk G 17 x61).bind fun b64 =>
      (fJ2_size E b64 G).bind fun z64 =>
      fX1_endsWith_b68 E gFU t v2 z64.1 z64.2)
    else (
      (grR G 7 7 v2 3).bind fun x43 =>
      (grR G 3 3 v1 7).bind fun x48 =>
      (gaI G 100 x48 v3).bind fun x52 =>
      (gsaI E G x43 v3 x52).bind fun G53 =>
      fX1_endsWith_b34 E n t v1 v2 (v3 + 1) G53)
def fX1_endsWith (E : g_E) (t : Nat) (v1 : Option Nat) (G : g_G) : Option (g_G) :=
  (gnewO E G 7 4).bind fun z0 =>
  (fX18_init E z0.1 z0.2).bind fun z4 =>
  (gchk z4 3 v1).bind fun b10 =>
  (fX3_kind E b10 z4).bind fun z10 =>
  (gpI E z10.2 7 7 (some z0.1) 0 z10.1).bind fun G13 =>
  (grI G13 3 3 v1 1).bind fun x18 =>
  (gpI E G13 7 7 (some z0.1) 1 x18).bind fun G21 =>
  (gchk G21 3 v1).bind fun b26 =>
  (fX3_bits E b26 G21).bind fun z26 =>
  (gpI E z26.2 7 7 (some z0.1) 2 z26.1).bind fun G29 =>
  fX1_endsWith_b34 E gFU t v1 (some z0.1) 0 G29
def fX1_goes_b67 (E : g_E) (v1 : Option Nat) (v2 : Int32) (v4 : Option Nat) (G : g_G) : Option (g_G) :=
  (grR G 3 3 v1 3).bind fun x68 =>
  (gsaR E G 122 x68 v2 v4).bind fun G74 =>
  some G74
def fX1_goes_b58 (E : g_E) (k6 : Nat → (Option Nat) → Int32 → (Option Nat) → Int32 → g_G → Option (g_G)) (t : Nat) (v1 : Option Nat) (v2 : Int32) (v6 : Option Nat) (s0 : Int32) (G : g_G) : Option (g_G) :=
  k6 t v1 v2 v6 s0 G
def fX1_goes_b44 (E : g_E) (k6 : Nat → (Option Nat) → Int32 → (Option Nat) → Int32 → g_G → Option (g_G)) (t : Nat) (v1 : Option Nat) (v2 : Int32) (v4 : Option Nat) (s0 : Option Nat) (G : g_G) : Option (g_G) :=
  if s0 = v4 then (
    fX1_goes_b58 E k6 t v1 v2 s0 0 G)
  else (
    fX1_goes_b58 E k6 t v1 v2 s0 1 G)
def fX1_goes_b6 (E : g_E) : Nat → Nat → (Option Nat) → Int32 → (Option Nat) → Int32 → g_G → Option (g_G)
  | 0, _, _, _, _, _, _ => none
  | n + 1, t, v1, v2, v4, v5, G =>
    if v5 = 0 then (
      fX1_goes_b67 E v1 v2 v4 G)
    else (
      if v4 = none then (
        fX1_goes_b67 E v1 v2 v4 G)
      else (
        (grR G 1 1 (some t) 5).bind fun x17 =>
        (grI G 11 16 v4 1).bind fun x22 =>
        (gaI G 102 x17 x22).bind fun x25 =>
        if x25 = 0 then (
          (fV_comes E v4 v1 v2 G).bind fun z41 =>
          fX1_goes_b44 E (fX1_goes_b6 E n) t v1 v2 v4 z41.1 z41.2)
        else (
          (grR G 11 16 v4 2).bind fun x31 =>
          fX1_goes_b44 E (fX1_goes_b6 E n) t v1 v2 v4 x31 G)))
def fX1_goes (E : g_E) (t : Nat) (v1 : Option Nat) (v2 : Int32) (v3 : Option Nat) (G : g_G) : Option (g_G) :=
  fX1_goes_b6 E gFU t v1 v2 v3 1 G
def fX1_of_b45 (E : g_E) (t : Nat) (v1 : Int32) (v2 : Int32) (s0 : Int32) (G : g_G) : Option ((Int32 × g_G) ⊕ gX) :=
  gcat (fX1_there E s0 G) (fun z45 =>
    if v2 = 0 then (
      (grR z45 1 1 (some t) 28).bind fun x93 =>
      (gaI z45 100 x93 v1).bind fun x97 =>
      some (.inl (x97, z45)))
    else
    if v2 = 1 then (
      (grR z45 1 1 (some t) 29).bind fun x100 =>
      (gaI z45 100 x100 v1).bind fun x104 =>
      some (.inl (x104, z45)))
    else
    if v2 = 2 then (
      (grR z45 1 1 (some t) 20).bind fun x107 =>
      (gchk z45 3 x107).bind fun b111 =>
      (fX3_hasEnded E b111 v1 z45).bind fun z111 =>
      if z111.1 = 0 then (
        (grR z111.2 1 1 (some t) 20).bind fun x122 =>
        (grR z111.2 3 3 x122 3).bind fun x125 =>
        (gaR z111.2 122 x125 v1).bind fun x129 =>
        (grI z111.2 11 16 x129 1).bind fun x130 =>
        some (.inl (x130, z111.2)))
      else (
        some (.inl ((-1), z111.2))))
    else
    if v2 = 3 then (
      (grR z45 1 1 (some t) 20).bind fun x135 =>
      (grR z45 3 3 x135 7).bind fun x138 =>
      (gaI z45 100 x138 v1).bind fun x142 =>
      some (.inl (x142, z45)))
    else
    if v2 = 4 then (
      (grR z45 1 1 (some t) 20).bind fun x145 =>
      (grR z45 3 3 x145 6).bind fun x148 =>
      (gaI z45 100 x148 v1).bind fun x152 =>
      some (.inl (x152, z45)))
    else
    if v2 = 5 then (
      (grR z45 1 1 (some t) 20).bind fun x156 =>
      (gchk z45 1 (some t)).bind fun b160 =>
      (fX1_waitsFor E b160 x156 v1 z45).bind fun z160 =>
      some (.inl (z160.1, z160.2)))
    else
    if v2 = 6 then (
      (grR z45 1 1 (some t) 20).bind fun x165 =>
      (grR z45 3 3 x165 4).bind fun x168 =>
      (gaI z45 102 x168 v1).bind fun x172 =>
      if x172 = 0 then (
        some (.inl (0, z45)))
      else (
        some (.inl (1, z45))))
    else
    (
      (grR z45 1 1 (some t) 20).bind fun x183 =>
      (grR z45 3 3 x183 5).bind fun x186 =>
      (gaI z45 100 x186 (((4 * v1) + v2) - 8)).bind fun x197 =>
      some (.inl (x197, z45))))
  (fun y => some (.inr y))
def fX1_of_b44 (E : g_E) (t : Nat) (v1 : Int32) (v2 : Int32) (G : g_G) : Option ((Int32 × g_G) ⊕ gX) :=
  fX1_of_b45 E t v1 v2 0 G
def fX1_of_b33 (E : g_E) (t : Nat) (v1 : Int32) (v2 : Int32) (G : g_G) : Option ((Int32 × g_G) ⊕ gX) :=
  (grI G 1 1 (some t) 21).bind fun x34 =>
  if x34 = 0 then (
    fX1_of_b44 E t v1 v2 G)
  else (
    fX1_of_b45 E t v1 v2 1 G)
def fX1_of (E : g_E) (t : Nat) (v1 : Int32) (v2 : Int32) (G : g_G) : Option ((Int32 × g_G) ⊕ gX) :=
  if v1 < 0 then (
    fX1_of_b44 E t v1 v2 G)
  else (
    (grI G 1 1 (some t) 0).bind fun x6 =>
    if x6 ≤ v1 then (
      fX1_of_b44 E t v1 v2 G)
    else (
      (fX1_within E v2 0 6 G).bind fun z16 =>
      if ¬ z16.1 = 0 then (
        fX1_of_b33 E t v1 v2 z16.2)
      else (
        (fX1_within E v2 8 11 z16.2).bind fun z27 =>
        if z27.1 = 0 then (
          fX1_of_b44 E t v1 v2 z27.2)
        else (
          fX1_of_b33 E t v1 v2 z27.2))))
def fX1_rounds_b123 (E : g_E) : Nat → Nat → (Option Nat) → Int32 → Int32 → g_G → Option (g_G)
  | 0, _, _, _, _, _ => none
  | n + 1, t, v3, v4, v6, G =>
    if v4 ≤ v6 then (
      some G)
    else (
      (grR G 1 1 (some t) 24).bind fun x131 =>
      (grI G 1 1 (some t) 27).bind fun x135 =>
      (gaI G 100 v3 v6).bind fun x141 =>
      (gsaI E G x131 x135 x141).bind fun G142 =>
      (grI G142 1 1 (some t) 27).bind fun x145 =>
      (gpI E G142 1 1 (some t) 27 (x145 + 1)).bind fun G150 =>
      fX1_rounds_b123 E n t v3 v4 (v6 + 1) G150)
def fX1_rounds_b105 (E : g_E) : Nat → Nat → Int32 → (Option Nat) → Int32 → Int32 → g_G → Option (g_G)
  | 0, _, _, _, _, _, _ => none
  | n + 1, t, v2, v3, v4, v5, G =>
    (gaI G 100 v3 v5).bind fun x108 =>
    if x108 = v2 then (
      fX1_rounds_b123 E gFU t v3 v4 v5 G)
    else (
      fX1_rounds_b105 E n t v2 v3 v4 (v5 + 1) G)
def fX1_rounds_b96 (E : g_E) (t : Nat) (v2 : Int32) (v3 : Option Nat) (v4 : Int32) (G : g_G) : Option (g_G) :=
  if ¬ v2 = (-1 : Int32) then (
    fX1_rounds_b105 E gFU t v2 v3 v4 0 G)
  else (
    some G)
def fX1_rounds_b92 (E : g_E) (k40 : Nat → Int32 → Int32 → (Option Nat) → Int32 → g_G → Option (g_G)) (t : Nat) (v1 : Int32) (v3 : Option Nat) (v4 : Int32) (s0 : Int32) (G : g_G) : Option (g_G) :=
  k40 t v1 s0 v3 v4 G
def fX1_rounds_b40 (E : g_E) : Nat → Nat → Int32 → Int32 → (Option Nat) → Int32 → g_G → Option (g_G)
  | 0, _, _, _, _, _, _ => none
  | n + 1, t, v1, v2, v3, v4, G =>
    if v2 = (-1 : Int32) then (
      fX1_rounds_b96 E t v2 v3 v4 G)
    else (
      if ¬ ((v1 >>> (v2 &&& 31)) &&& 1) = 0 then (
        fX1_rounds_b96 E t v2 v3 v4 G)
      else (
        (gsaI E G v3 v4 v2).bind fun G63 =>
        (grR G63 1 1 (some t) 20).bind fun x69 =>
        (gchk G63 1 (some t)).bind fun b73 =>
        (fX1_waitsFor E b73 x69 v2 G63).bind fun z73 =>
        if ¬ z73.1 = 0 then (
          (fJ16_numberOfTrailingZeros E z73.1 z73.2).bind fun z89 =>
          fX1_rounds_b92 E (fX1_rounds_b40 E n) t (v1 ||| (1 <<< (v2 &&& 31))) v3 (v4 + 1) z89.1 z89.2)
        else (
          fX1_rounds_b92 E (fX1_rounds_b40 E n) t (v1 ||| (1 <<< (v2 &&& 31))) v3 (v4 + 1) (-1) z73.2)))
def fX1_rounds_b31 (E : g_E) (t : Nat) (v1 : Int32) (s0 : Int32) (G : g_G) : Option (g_G) :=
  (gnewA E G 100 8).bind fun z34 =>
  fX1_rounds_b40 E gFU t v1 s0 (some z34.1) 0 z34.2
def fX1_rounds (E : g_E) (t : Nat) (G : g_G) : Option (g_G) :=
  (gpI E G 1 1 (some t) 27 0).bind fun G2 =>
  (grR G2 1 1 (some t) 20).bind fun x8 =>
  (gchk G2 3 x8).bind fun b11 =>
  (fX3_bits E b11 G2).bind fun z11 =>
  if ¬ z11.1 = 0 then (
    (grR z11.2 1 1 (some t) 20).bind fun x22 =>
    (gchk z11.2 3 x22).bind fun b25 =>
    (fX3_bits E b25 z11.2).bind fun z25 =>
    (fJ16_numberOfTrailingZeros E z25.1 z25.2).bind fun z28 =>
    fX1_rounds_b31 E t 0 z28.1 z28.2)
  else (
    fX1_rounds_b31 E t 0 (-1) z11.2)
def fX1_together_b132 (E : g_E) (k70 : Nat → (Option Nat) → Int32 → Int32 → Int32 → Int32 → g_G → Option (g_G)) (t : Nat) (v1 : Option Nat) (v2 : Int32) (v3 : Int32) (v4 : Int32) (v5 : Int32) (v6 : Option Nat) (G : g_G) : Option (g_G) :=
  (grR G 11 11 v6 2).bind fun x138 =>
  (gchk G 1 (some t)).bind fun b141 =>
  (fX1_goes E b141 v1 v5 x138 G).bind fun z141 =>
  k70 t v1 v2 v3 v4 (v5 + 1) z141
def fX1_together_b70 (E : g_E) : Nat → Nat → (Option Nat) → Int32 → Int32 → Int32 → Int32 → g_G → Option (g_G)
  | 0, _, _, _, _, _, _, _ => none
  | n + 1, t, v1, v2, v3, v4, v5, G =>
    (grI G 3 3 v1 0).bind fun x73 =>
    if x73 ≤ v5 then (
      some G)
    else (
      (grR G 3 3 v1 3).bind fun x80 =>
      (gaR G 122 x80 v5).bind fun x85 =>
      (gcast G 11 11 x85).bind fun x86 =>
      (gchk G 1 (some t)).bind fun b96 =>
      (fX1_clocks E b96 v5 v4 G).bind fun z96 =>
      (grR z96 1 1 (some t) 6).bind fun x100 =>
      (gaI z96 100 x100 v5).bind fun x106 =>
      (gsaI E z96 x100 v5 (x106 + 1)).bind fun G109 =>
      if ¬ v2 = (7 : Int32) then (
        fX1_together_b132 E (fX1_together_b70 E n) t v1 v2 v3 v4 v5 x86 G109)
      else (
        (grR G109 3 3 v1 5).bind fun x117 =>
        (grI G109 11 11 x86 4).bind fun x126 =>
        (gsaI E G109 x117 ((4 * v5) + x126) v3).bind fun G131 =>
        fX1_together_b132 E (fX1_together_b70 E n) t v1 v2 v3 v4 v5 x86 G131))
def fX1_together_b47 (E : g_E) (k8 : Nat → (Option Nat) → Int32 → Int32 → Int32 → Int32 → g_G → Option (g_G)) (t : Nat) (v1 : Option Nat) (v2 : Int32) (v3 : Int32) (v4 : Int32) (v5 : Int32) (G : g_G) : Option (g_G) :=
  (grR G 1 1 (some t) 6).bind fun x50 =>
  (gaI G 100 x50 v5).bind fun x55 =>
  k8 t v1 v2 v3 (if v4 < x55 then x55 else v4) (v5 + 1) G
def fX1_together_b8 (E : g_E) : Nat → Nat → (Option Nat) → Int32 → Int32 → Int32 → Int32 → g_G → Option (g_G)
  | 0, _, _, _, _, _, _, _ => none
  | n + 1, t, v1, v2, v3, v4, v5, G =>
    (grI G 3 3 v1 0).bind fun x11 =>
    if x11 ≤ v5 then (
      fX1_together_b70 E gFU t v1 v2 v3 v4 0 G)
    else (
      if ¬ v2 = (7 : Int32) then (
        fX1_together_b47 E (fX1_together_b8 E n) t v1 v2 v3 v4 v5 G)
      else (
        (grR G 3 3 v1 3).bind fun x25 =>
        (gaR G 122 x25 v5).bind fun x30 =>
        (gcast G 11 11 x30).bind fun x31 =>
        (grR G 11 11 x31 3).bind fun x34 =>
        (fI_value E gDP x34 v1 v5 G).bind fun z40 =>
        fX1_together_b47 E (fX1_together_b8 E n) t v1 v2 (v3 + z40.1) v4 v5 z40.2))
def fX1_together (E : g_E) (t : Nat) (v1 : Option Nat) (v2 : Int32) (G : g_G) : Option (g_G) :=
  fX1_together_b8 E gFU t v1 v2 0 0 0 G
def fX4_begin_b48 (E : g_E) (k24 : Nat → Int32 → g_G → Option (g_G)) (t : Nat) (v1 : Int32) (s0 : Option Nat) (s1 : Int32) (s2 : Int32) (G : g_G) : Option (g_G) :=
  (gchk G 4 s0).bind fun b48 =>
  (fX4_come E b48 s1 s2 G).bind fun z48 =>
  k24 t (v1 + 1) z48
def fX4_begin_b24 (E : g_E) : Nat → Nat → Int32 → g_G → Option (g_G)
  | 0, _, _, _ => none
  | n + 1, t, v1, G =>
    (grI G 4 4 (some t) 3).bind fun x26 =>
    if x26 ≤ v1 then (
      some G)
    else (
      (grR G 4 4 (some t) 22).bind fun x35 =>
      (gaI G 100 x35 0).bind fun x39 =>
      if ¬ x39 = 0 then (
        fX4_begin_b48 E (fX4_begin_b24 E n) t v1 (some t) v1 0 G)
      else (
        fX4_begin_b48 E (fX4_begin_b24 E n) t v1 (some t) v1 (-1) G))
def fX4_begin_b2 (E : g_E) : Nat → Nat → Int32 → g_G → Option (g_G)
  | 0, _, _, _ => none
  | n + 1, t, v1, G =>
    if (1985 : Int32) ≤ v1 then (
      fX4_begin_b24 E gFU t 0 G)
    else (
      (grR G 4 4 (some t) 33).bind fun x10 =>
      (gsaI E G x10 v1 0).bind fun G15 =>
      fX4_begin_b2 E n t (v1 + 1) G15)
def fX4_begin (E : g_E) (t : Nat) (G : g_G) : Option (g_G) :=
  fX4_begin_b2 E gFU t 0 G
def fX4_can_b104 (E : g_E) (G : g_G) : Option (Int32 × g_G) :=
  if (1 : Int32) = 0 ∨ (1 : Int32) = 1 then some (1, G) else none
def fX4_can_b164 (E : g_E) (t : Nat) (v1 : Int32) (v2 : Int32) (G : g_G) : Option (Int32 × g_G) :=
  (gchk G 4 (some t)).bind fun b170 =>
  (fX4_asked E b170 v1 1 G).bind fun z170 =>
  (gchk z170.2 4 (some t)).bind fun b173 =>
  (fX4_lying E b173 v2 v1 z170.1 z170.2).bind fun z173 =>
  if z173.1 = (-1 : Int32) then (
    if (0 : Int32) = 0 ∨ (0 : Int32) = 1 then some (0, z173.2) else none)
  else (
    if (1 : Int32) = 0 ∨ (1 : Int32) = 1 then some (1, z173.2) else none)
def fX4_can (E : g_E) (t : Nat) (v1 : Int32) (v2 : Int32) (G : g_G) : Option (Int32 × g_G) :=
  (gchk G 4 (some t)).bind fun b3 =>
  (fX4_own E b3 v1 0 G).bind fun z3 =>
  if z3.1 = (-1 : Int32) then (
    if (0 : Int32) = 0 ∨ (0 : Int32) = 1 then some (0, z3.2) else none)
  else (
    (gchk z3.2 4 (some t)).bind fun b15 =>
    (fX4_own E b15 v1 1 z3.2).bind fun z15 =>
    if ¬ z15.1 = (1 : Int32) then (
      (grR z15.2 4 4 (some t) 24).bind fun x25 =>
      (gaI z15.2 100 x25 z3.1).bind fun x29 =>
      if x29 = 0 then (
        (gchk z15.2 4 (some t)).bind fun b83 =>
        (fX4_asked E b83 v1 0 z15.2).bind fun z83 =>
        (gchk z83.2 4 (some t)).bind fun b86 =>
        (fX4_sent E b86 v1 z83.1 z83.2).bind fun z86 =>
        (grI z86.2 4 4 (some t) 4).bind fun x90 =>
        if z86.1 < x90 then (
          fX4_can_b104 E z86.2)
        else (
          (gchk z86.2 4 (some t)).bind fun b98 =>
          (fX4_hands E b98 v1 z86.2).bind fun z98 =>
          if z98.1 = 0 then (
            if (0 : Int32) = 0 ∨ (0 : Int32) = 1 then some (0, z98.2) else none)
          else (
            fX4_can_b104 E z98.2)))
      else
      if x29 = 1 then (
        (gchk z15.2 4 (some t)).bind fun b112 =>
        (fX4_hands E b112 v1 z15.2).bind fun z112 =>
        if z112.1 = 0 ∨ z112.1 = 1 then some (z112.1, z112.2) else none)
      else
      if x29 = 2 then (
        if (1 : Int32) = 0 ∨ (1 : Int32) = 1 then some (1, z15.2) else none)
      else
      if x29 = 3 then (
        (gchk z15.2 4 (some t)).bind fun b120 =>
        (fX4_asked E b120 v1 0 z15.2).bind fun z120 =>
        (gchk z120.2 4 (some t)).bind fun b127 =>
        (fX4_asked E b127 v1 1 z120.2).bind fun z127 =>
        (gchk z127.2 4 (some t)).bind fun b130 =>
        (fX4_lying E b130 z120.1 v1 z127.1 z127.2).bind fun z130 =>
        if z130.1 = (-1 : Int32) then (
          if (0 : Int32) = 0 ∨ (0 : Int32) = 1 then some (0, z130.2) else none)
        else (
          if (1 : Int32) = 0 ∨ (1 : Int32) = 1 then some (1, z130.2) else none))
      else
      if x29 = 4 then (
        if v2 = v1 then (
          if (0 : Int32) = 0 ∨ (0 : Int32) = 1 then some (0, z15.2) else none)
        else (
          (grI z15.2 4 4 (some t) 35).bind fun x149 =>
          if x149 = (-1 : Int32) then (
            fX4_can_b164 E t v1 v2 z15.2)
          else (
            (grI z15.2 4 4 (some t) 35).bind fun x157 =>
            if ¬ x157 = v2 then (
              if (0 : Int32) = 0 ∨ (0 : Int32) = 1 then some (0, z15.2) else none)
            else (
              fX4_can_b164 E t v1 v2 z15.2))))
      else
      if x29 = 5 then (
        (gchk z15.2 4 (some t)).bind fun b188 =>
        (fX4_begun E b188 v1 z15.2).bind fun z188 =>
        if ¬ z188.1 = 0 then (
          if (0 : Int32) = 0 ∨ (0 : Int32) = 1 then some (0, z188.2) else none)
        else (
          if (1 : Int32) = 0 ∨ (1 : Int32) = 1 then some (1, z188.2) else none))
      else
      if x29 = 6 then (
        if ¬ v1 = 0 then (
          if (0 : Int32) = 0 ∨ (0 : Int32) = 1 then some (0, z15.2) else none)
        else (
          (grR z15.2 4 4 (some t) 24).bind fun x206 =>
          (gaI z15.2 100 x206 z3.1).bind fun x210 =>
          (gchk z15.2 4 (some t)).bind fun b211 =>
          (fX4_areAll E b211 x210 z15.2).bind fun z211 =>
          if z211.1 = 0 then (
            if (0 : Int32) = 0 ∨ (0 : Int32) = 1 then some (0, z211.2) else none)
          else (
            if (1 : Int32) = 0 ∨ (1 : Int32) = 1 then some (1, z211.2) else none)))
      else
      if x29 = 7 then (
        if ¬ v1 = 0 then (
          if (0 : Int32) = 0 ∨ (0 : Int32) = 1 then some (0, z15.2) else none)
        else (
          (grR z15.2 4 4 (some t) 24).bind fun x206 =>
          (gaI z15.2 100 x206 z3.1).bind fun x210 =>
          (gchk z15.2 4 (some t)).bind fun b211 =>
          (fX4_areAll E b211 x210 z15.2).bind fun z211 =>
          if z211.1 = 0 then (
            if (0 : Int32) = 0 ∨ (0 : Int32) = 1 then some (0, z211.2) else none)
          else (
            if (1 : Int32) = 0 ∨ (1 : Int32) = 1 then some (1, z211.2) else none)))
      else
      (
        if (0 : Int32) = 0 ∨ (0 : Int32) = 1 then some (0, z15.2) else none))
    else (
      if (0 : Int32) = 0 ∨ (0 : Int32) = 1 then some (0, z15.2) else none))
def fX4_handOver_b102 (E : g_E) (t : Nat) (v1 : Int32) (v2 : Int32) (v3 : Int32) (v4 : Int32) (G : g_G) : Option (g_G) :=
  (gchk G 4 (some t)).bind fun b104 =>
  (fX4_goOn E b104 v1 G).bind fun z104 =>
  (gchk z104 4 (some t)).bind fun b113 =>
  (fX4_has E b113 v2 v1 v3 v4 z104).bind fun z113 =>
  some z113
def fX4_handOver (E : g_E) (t : Nat) (v1 : Int32) (G : g_G) : Option (g_G) :=
  (gchk G 4 (some t)).bind fun b3 =>
  (fX4_asked E b3 v1 0 G).bind fun z3 =>
  (gchk z3.2 4 (some t)).bind fun b10 =>
  (fX4_asked E b10 v1 2 z3.2).bind fun z10 =>
  (grR z10.2 4 4 (some t) 28).bind fun x15 =>
  (gchk z10.2 4 (some t)).bind fun b21 =>
  (fX4_own E b21 v1 0 z10.2).bind fun z21 =>
  (gaI z21.2 100 x15 z21.1).bind fun x24 =>
  (grR z21.2 4 4 (some t) 36).bind fun x28 =>
  (gaI z21.2 100 x28 v1).bind fun x32 =>
  (grR z21.2 4 4 (some t) 36).bind fun x34 =>
  (gaI z21.2 100 x34 z3.1).bind fun x38 =>
  (gchk z21.2 4 (some t)).bind fun b48 =>
  (fX4_upTo E b48 v1 (if x32 < x38 then x38 else x32) z21.2).bind fun z48 =>
  (gchk z48 4 (some t)).bind fun b55 =>
  (fX4_upTo E b55 z3.1 (if x32 < x38 then x38 else x32) z48).bind fun z55 =>
  (grR z55 4 4 (some t) 36).bind fun x59 =>
  (gaI z55 100 x59 v1).bind fun x64 =>
  (gchk z55 4 (some t)).bind fun b69 =>
  (fX4_farOf E b69 v1 z3.1 z55).bind fun z69 =>
  (gsaI E z69.2 x59 v1 (x64 + (1 + z69.1))).bind fun G74 =>
  (grR G74 4 4 (some t) 36).bind fun x76 =>
  (grR G74 4 4 (some t) 36).bind fun x81 =>
  (gaI G74 100 x81 v1).bind fun x85 =>
  (gsaI E G74 x76 z3.1 x85).bind fun G86 =>
  (gchk G86 4 (some t)).bind fun b90 =>
  (fX4_isAt E b90 z3.1 4 G86).bind fun z90 =>
  if z90.1 = 0 then (
    fX4_handOver_b102 E t v1 z3.1 z10.1 x24 z90.2)
  else (
    (gchk z90.2 4 (some t)).bind fun b99 =>
    (fX4_noteAny E b99 z3.1 v1 z90.2).bind fun z99 =>
    fX4_handOver_b102 E t v1 z3.1 z10.1 x24 z99)
def fX4_move (E : g_E) (t : Nat) (v1 : Int32) (v2 : Int32) (G : g_G) : Option (g_G) :=
  (gchk G 4 (some t)).bind fun b3 =>
  (fX4_own E b3 v1 0 G).bind fun z3 =>
  (gpI E z3.2 4 4 (some t) 40 (-1)).bind fun G9 =>
  (grR G9 4 4 (some t) 24).bind fun x13 =>
  (gaI G9 100 x13 z3.1).bind fun x17 =>
  if x17 = 0 then (
    (gchk G9 4 (some t)).bind fun b85 =>
    (fX4_asked E b85 v1 0 G9).bind fun z85 =>
    (gchk z85.2 4 (some t)).bind fun b88 =>
    (fX4_sent E b88 v1 z85.1 z85.2).bind fun z88 =>
    (grI z88.2 4 4 (some t) 4).bind fun x92 =>
    if x92 ≤ z88.1 then (
      (gchk z88.2 4 (some t)).bind fun b124 =>
      (fX4_handOver E b124 v1 z88.2).bind fun z124 =>
      some z124)
    else (
      (gchk z88.2 4 (some t)).bind fun b101 =>
      (fX4_lay E b101 v1 0 z88.2).bind fun z101 =>
      (grR z101 4 4 (some t) 36).bind fun x105 =>
      (gaI z101 100 x105 v1).bind fun x110 =>
      (gsaI E z101 x105 v1 (x110 + 1)).bind fun G113 =>
      (gchk G113 4 (some t)).bind fun b116 =>
      (fX4_goOn E b116 v1 G113).bind fun z116 =>
      some z116))
  else
  if x17 = 1 then (
    (gchk G9 4 (some t)).bind fun b132 =>
    (fX4_handOver E b132 v1 G9).bind fun z132 =>
    some z132)
  else
  if x17 = 2 then (
    (gchk G9 4 (some t)).bind fun b59 =>
    (fX4_lay E b59 v1 1 G9).bind fun z59 =>
    (grR z59 4 4 (some t) 36).bind fun x63 =>
    (gaI z59 100 x63 v1).bind fun x68 =>
    (gsaI E z59 x63 v1 (x68 + 1)).bind fun G71 =>
    (gchk G71 4 (some t)).bind fun b74 =>
    (fX4_goOn E b74 v1 G71).bind fun z74 =>
    some z74)
  else
  if x17 = 3 then (
    (gchk G9 4 (some t)).bind fun b141 =>
    (fX4_asked E b141 v1 0 G9).bind fun z141 =>
    (gchk z141.2 4 (some t)).bind fun b153 =>
    (fX4_asked E b153 v1 1 z141.2).bind fun z153 =>
    (gchk z153.2 4 (some t)).bind fun b156 =>
    (fX4_lying E b156 z141.1 v1 z153.1 z153.2).bind fun z156 =>
    (gchk z156.2 4 (some t)).bind fun b167 =>
    (fX4_take E b167 v1 z141.1 z156.1 z156.2).bind fun z167 =>
    some z167)
  else
  if x17 = 4 then (
    (gchk G9 4 (some t)).bind fun b179 =>
    (fX4_asked E b179 v1 1 G9).bind fun z179 =>
    (gchk z179.2 4 (some t)).bind fun b182 =>
    (fX4_lying E b182 v2 v1 z179.1 z179.2).bind fun z182 =>
    (gchk z182.2 4 (some t)).bind fun b190 =>
    (fX4_noteAny E b190 v1 v2 z182.2).bind fun z190 =>
    (gchk z190 4 (some t)).bind fun b198 =>
    (fX4_take E b198 v1 v2 z182.1 z190).bind fun z198 =>
    some z198)
  else
  if x17 = 5 then (
    (grR G9 4 4 (some t) 38).bind fun x207 =>
    (gaI G9 100 x207 v1).bind fun x211 =>
    (gchk G9 4 (some t)).bind fun b212 =>
    (fX4_upTo E b212 v1 x211 G9).bind fun z212 =>
    (grR z212 4 4 (some t) 36).bind fun x216 =>
    (gaI z212 100 x216 v1).bind fun x221 =>
    (gsaI E z212 x216 v1 (x221 + 1)).bind fun G224 =>
    (gchk G224 4 (some t)).bind fun b227 =>
    (fX4_goOn E b227 v1 G224).bind fun z227 =>
    some z227)
  else
  (
    (grR G9 4 4 (some t) 24).bind fun x235 =>
    (gaI G9 100 x235 z3.1).bind fun x239 =>
    (gchk G9 4 (some t)).bind fun b240 =>
    (fX4_together E b240 x239 G9).bind fun z240 =>
    some z240)
def fX4_readExpression_b100 (E : g_E) (fM : g_E → Nat → Int32 → g_G → Option (g_G)) (t : Nat) (v1 : Int32) (s0 : Int32) (G : g_G) : Option (g_G) :=
  (gchk G 4 (some t)).bind fun b102 =>
  (fX4_stepOn E b102 G).bind fun z102 =>
  (gchk z102 4 (some t)).bind fun b107 =>
  (fX4_readSum E fM b107 v1 z102).bind fun z107 =>
  (gchk z107 4 (some t)).bind fun b112 =>
  (fX4_emit E b112 s0 z107).bind fun z112 =>
  some z112
def fX4_readExpression_b85 (E : g_E) (fM : g_E → Nat → Int32 → g_G → Option (g_G)) (t : Nat) (v1 : Int32) (G : g_G) : Option (g_G) :=
  (gchk G 4 (some t)).bind fun b88 =>
  (fX4_isSign E b88 60 G).bind fun z88 =>
  if z88.1 = 0 then (
    fX4_readExpression_b100 E fM t v1 6 z88.2)
  else (
    fX4_readExpression_b100 E fM t v1 5 z88.2)
def fX4_readExpression_b62 (E : g_E) (fM : g_E → Nat → Int32 → g_G → Option (g_G)) (t : Nat) (v1 : Int32) (G : g_G) : Option (g_G) :=
  (gchk G 4 (some t)).bind fun b64 =>
  (fX4_readSum E fM b64 v1 G).bind fun z64 =>
  (gchk z64 4 (some t)).bind fun b70 =>
  (fX4_isSign E b70 60 z64).bind fun z70 =>
  if ¬ z70.1 = 0 then (
    fX4_readExpression_b85 E fM t v1 z70.2)
  else (
    (gchk z70.2 4 (some t)).bind fun b79 =>
    (fX4_isSign E b79 61 z70.2).bind fun z79 =>
    if z79.1 = 0 then (
      some z79.2)
    else (
      fX4_readExpression_b85 E fM t v1 z79.2))
def fX4_readExpression_b38 (E : g_E) (fM : g_E → Nat → Int32 → g_G → Option (g_G)) (t : Nat) (v1 : Int32) (s0 : Int32) (G : g_G) : Option (g_G) :=
  if ¬ s0 = 0 then (
    if ¬ v1 = (7 : Int32) then (
      fX4_readExpression_b62 E fM t v1 G)
    else (
      (gchk G 4 (some t)).bind fun b59 =>
      (fX4_wrong E b59 2 G).bind fun z59 =>
      fX4_readExpression_b62 E fM t v1 z59))
  else (
    (gchk G 4 (some t)).bind fun b45 =>
    (fX4_wrong E b45 1 G).bind fun z45 =>
    fX4_readExpression_b62 E fM t v1 z45)
def fX4_readExpression_b33 (E : g_E) (fM : g_E → Nat → Int32 → g_G → Option (g_G)) (t : Nat) (v1 : Int32) (G : g_G) : Option (g_G) :=
  fX4_readExpression_b38 E fM t v1 1 G
def fX4_readExpression (E : g_E) (fM : g_E → Nat → Int32 → g_G → Option (g_G)) (t : Nat) (v1 : Int32) (G : g_G) : Option (g_G) :=
  (grI G 4 4 (some t) 18).bind fun x1 =>
  if x1 = 0 then (
    (grI G 4 4 (some t) 13).bind fun x9 =>
    if x9 = (2 : Int32) then (
      fX4_readExpression_b33 E fM t v1 G)
    else (
      (grI G 4 4 (some t) 13).bind fun x17 =>
      if x17 = (1 : Int32) then (
        fX4_readExpression_b33 E fM t v1 G)
      else (
        (gchk G 4 (some t)).bind fun b27 =>
        (fX4_isSign E b27 40 G).bind fun z27 =>
        if z27.1 = 0 then (
          fX4_readExpression_b38 E fM t v1 0 z27.2)
        else (
          fX4_readExpression_b33 E fM t v1 z27.2))))
  else (
    some G)
def fR_mexpr : Nat → g_E → Nat → Int32 → g_G → Option (g_G)
  | 0 => fun _ _ _ _ => none
  | d + 1 => fun E t v1 G => fX4_readExpression E (fR_mexpr d) t v1 G
def fX4_readInto_b34 (E : g_E) (t : Nat) (v1 : Int32) (v2 : Int32) (G : g_G) : Option (g_G) :=
  (grR G 4 4 (some t) 26).bind fun x35 =>
  (grI G 4 4 (some t) 21).bind fun x47 =>
  (gsaI E G x35 ((3 * (40 + v1)) + v2) x47).bind fun G50 =>
  some G50
def fX4_readInto (E : g_E) (t : Nat) (v1 : Int32) (v2 : Int32) (v3 : Int32) (G : g_G) : Option (g_G) :=
  (grR G 4 4 (some t) 25).bind fun x1 =>
  (grI G 4 4 (some t) 21).bind fun x13 =>
  (gsaI E G x1 ((3 * (40 + v1)) + v2) x13).bind fun G16 =>
  if v3 = 0 then (
    (gchk G16 4 (some t)).bind fun b31 =>
    (fX4_readSum E (fR_mexpr 10) b31 0 G16).bind fun z31 =>
    fX4_readInto_b34 E t v1 v2 z31)
  else (
    (gchk G16 4 (some t)).bind fun b23 =>
    (fR_mexpr 10 E b23 0 G16).bind fun z23 =>
    fX4_readInto_b34 E t v1 v2 z23)
def fX4_run_b213 (E : g_E) (k55 : Nat → Int32 → Int64 → Int32 → Int32 → g_G → Option (Int32 × g_G)) (t : Nat) (v1 : Int32) (v2 : Int64) (v4 : Int32) (v5 : Int32) (G : g_G) : Option (Int32 × g_G) :=
  k55 t v1 v2 v4 v5 G
def fX4_run_b207 (E : g_E) (k55 : Nat → Int32 → Int64 → Int32 → Int32 → g_G → Option (Int32 × g_G)) (k90 : Nat → Int32 → Int64 → Int32 → Int32 → Int32 → g_G → Option (Int32 × g_G)) (t : Nat) (v1 : Int32) (v2 : Int64) (v4 : Int32) (v5 : Int32) (v6 : Int32) (G : g_G) : Option (Int32 × g_G) :=
  k90 t v1 v2 v4 v5 (v6 + 1) G
def fX4_run_b201 (E : g_E) (k55 : Nat → Int32 → Int64 → Int32 → Int32 → g_G → Option (Int32 × g_G)) (k90 : Nat → Int32 → Int64 → Int32 → Int32 → Int32 → g_G → Option (Int32 × g_G)) (k116 : Nat → Int32 → Int64 → Int32 → Int32 → Int32 → Int32 → Int32 → g_G → Option (Int32 × g_G)) (t : Nat) (v1 : Int32) (v2 : Int64) (v4 : Int32) (v5 : Int32) (v6 : Int32) (v7 : Int32) (v8 : Int32) (G : g_G) : Option (Int32 × g_G) :=
  k116 t v1 v2 v4 v5 v6 v7 (v8 + 1) G
def fX4_run_b131 (E : g_E) (k55 : Nat → Int32 → Int64 → Int32 → Int32 → g_G → Option (Int32 × g_G)) (k90 : Nat → Int32 → Int64 → Int32 → Int32 → Int32 → g_G → Option (Int32 × g_G)) (k116 : Nat → Int32 → Int64 → Int32 → Int32 → Int32 → Int32 → Int32 → g_G → Option (Int32 × g_G)) (t : Nat) (v1 : Int32) (v2 : Int64) (v4 : Int32) (v5 : Int32) (v6 : Int32) (v7 : Int32) (v8 : Int32) (s0 : Int32) (s1 : Int32) (G : g_G) : Option (Int32 × g_G) :=
  if s1 ≤ s0 then (
    fX4_run_b207 E k55 k90 t v1 v2 v4 v5 v6 G)
  else (
    if ¬ v5 = 0 then (
      fX4_run_b207 E k55 k90 t v1 v2 v4 v5 v6 G)
    else (
      (gchk G 4 (some t)).bind fun b144 =>
      (fX4_can E b144 v6 v8 G).bind fun z144 =>
      if ¬ z144.1 = 0 then (
        (gchk z144.2 4 (some t)).bind fun b161 =>
        (fX4_move E b161 v6 v8 z144.2).bind fun z161 =>
        (grI z161 4 4 (some t) 40).bind fun x165 =>
        if ¬ x165 = (-1 : Int32) then (
          (grR z161 4 4 (some t) 62).bind fun x176 =>
          (grI z161 4 4 (some t) 59).bind fun x180 =>
          (grI z161 4 4 (some t) 41).bind fun x184 =>
          (gsaI E z161 x176 x180 x184).bind fun G187 =>
          (grI G187 4 4 (some t) 59).bind fun x190 =>
          (gpI E G187 4 4 (some t) 59 (x190 + 1)).bind fun G195 =>
          fX4_run_b201 E k55 k90 k116 t v1 v2 (v4 + 1) 1 v6 v7 v8 G195)
        else (
          fX4_run_b201 E k55 k90 k116 t v1 v2 v4 1 v6 v7 v8 z161))
      else (
        fX4_run_b201 E k55 k90 k116 t v1 v2 v4 v5 v6 v7 v8 z144.2)))
def fX4_run_b116 (E : g_E) (k55 : Nat → Int32 → Int64 → Int32 → Int32 → g_G → Option (Int32 × g_G)) (k90 : Nat → Int32 → Int64 → Int32 → Int32 → Int32 → g_G → Option (Int32 × g_G)) : Nat → Nat → Int32 → Int64 → Int32 → Int32 → Int32 → Int32 → Int32 → g_G → Option (Int32 × g_G)
  | 0, _, _, _, _, _, _, _, _, _ => none
  | n + 1, t, v1, v2, v4, v5, v6, v7, v8, G =>
    if v7 = 0 then (
      fX4_run_b131 E k55 k90 (fX4_run_b116 E k55 k90 n) t v1 v2 v4 v5 v6 v7 v8 v8 1 G)
    else (
      (grI G 4 4 (some t) 3).bind fun x124 =>
      fX4_run_b131 E k55 k90 (fX4_run_b116 E k55 k90 n) t v1 v2 v4 v5 v6 v7 v8 v8 x124 G)
def fX4_run_b90 (E : g_E) (k55 : Nat → Int32 → Int64 → Int32 → Int32 → g_G → Option (Int32 × g_G)) : Nat → Nat → Int32 → Int64 → Int32 → Int32 → Int32 → g_G → Option (Int32 × g_G)
  | 0, _, _, _, _, _, _, _ => none
  | n + 1, t, v1, v2, v4, v5, v6, G =>
    (grI G 4 4 (some t) 3).bind fun x93 =>
    if x93 ≤ v6 then (
      fX4_run_b213 E k55 t v1 v2 v4 v5 G)
    else (
      if ¬ v5 = 0 then (
        fX4_run_b213 E k55 t v1 v2 v4 v5 G)
      else (
        (gchk G 4 (some t)).bind fun b108 =>
        (fX4_isAt E b108 v6 4 G).bind fun z108 =>
        fX4_run_b116 E k55 (fX4_run_b90 E k55 n) gFU t v1 v2 v4 v5 v6 z108.1 0 z108.2))
def fX4_run_b81 (E : g_E) (k55 : Nat → Int32 → Int64 → Int32 → Int32 → g_G → Option (Int32 × g_G)) (t : Nat) (v1 : Int32) (v2 : Int64) (v4 : Int32) (s0 : Option Nat) (s1 : Int32) (G : g_G) : Option (Int32 × g_G) :=
  (gpI E G 4 4 s0 35 s1).bind fun G81 =>
  fX4_run_b90 E k55 gFU t v1 v2 v4 0 0 G81
def fX4_run_b55 (E : g_E) : Nat → Nat → Int32 → Int64 → Int32 → Int32 → g_G → Option (Int32 × g_G)
  | 0, _, _, _, _, _, _ => none
  | n + 1, t, v1, v2, v4, v5, G =>
    if v5 = 0 then (
      (gpI E G 4 4 (some t) 35 (-1)).bind fun G218 =>
      (gchk G218 4 (some t)).bind fun b222 =>
      (fX4_kindNow E b222 G218).bind fun z222 =>
      some (z222.1, z222.2))
    else (
      if v1 ≤ v4 then (
        fX4_run_b81 E (fX4_run_b55 E n) t v1 v2 v4 (some t) (-1) G)
      else (
        fX4_run_b81 E (fX4_run_b55 E n) t v1 v2 v4 (some t) ((Int64.toInt32 (v2 >>> (Int32.toInt64 (4 * v4) &&& 63))) &&& 15) G))
def fX4_run_b3 (E : g_E) : Nat → Nat → Int32 → Int64 → Int32 → g_G → Option (Int32 × g_G)
  | 0, _, _, _, _, _ => none
  | n + 1, t, v1, v2, v4, G =>
    if (8 : Int32) ≤ v4 then (
      (gchk G 4 (some t)).bind fun b41 =>
      (fX4_begin E b41 G).bind fun z41 =>
      (gpI E z41 4 4 (some t) 59 0).bind fun G49 =>
      fX4_run_b55 E gFU t v1 v2 0 1 G49)
    else (
      (grR G 4 4 (some t) 36).bind fun x11 =>
      (gsaI E G x11 v4 0).bind fun G17 =>
      (grR G17 4 4 (some t) 37).bind fun x19 =>
      (gsaI E G17 x19 v4 0).bind fun G25 =>
      (grR G25 4 4 (some t) 38).bind fun x27 =>
      (gsaI E G25 x27 v4 0).bind fun G33 =>
      fX4_run_b3 E n t v1 v2 (v4 + 1) G33)
def fX4_run (E : g_E) (t : Nat) (v1 : Int32) (v2 : Int64) (G : g_G) : Option (Int32 × g_G) :=
  fX4_run_b3 E gFU t v1 v2 0 G
def fX5_go_b332 (E : g_E) (t : Nat) (G : g_G) : Option (g_G) :=
  (grI G 5 5 (some t) 2).bind fun x334 =>
  (gpI E G 5 5 (some t) 2 (x334 + 1)).bind fun G339 =>
  some G339
def fX5_go_b310 (E : g_E) (t : Nat) (v1 : Int32) (s0 : Option Nat) (s1 : Option Nat) (G : g_G) : Option (g_G) :=
  (gpR E G 5 5 s0 8 s1).bind fun G310 =>
  (grR G310 5 5 (some t) 8).bind fun x314 =>
  if ¬ x314 = (some (gA E 3)) then (
    fX5_go_b332 E t G310)
  else (
    (fJ9_valueOf E (UInt32.toInt32 (Int32.toUInt32 v1 % 65536)) G310).bind fun z326 =>
    (gpR E z326.2 5 5 (some t) 9 z326.1).bind fun G329 =>
    fX5_go_b332 E t G329)
def fX5_go_b278 (E : g_E) (t : Nat) (s0 : Option Nat) (s1 : Int32) (G : g_G) : Option (g_G) :=
  (gpZ E G 5 5 s0 7 s1).bind fun G278 =>
  (gpR E G278 5 5 (some t) 8 (some (gA E 2))).bind fun G285 =>
  some G285
def fX5_go_b246 (E : g_E) (k196 : Nat → g_G → Option (g_G)) (t : Nat) (G : g_G) : Option (g_G) :=
  (grI G 5 5 (some t) 2).bind fun x248 =>
  (gpI E G 5 5 (some t) 2 (x248 + 1)).bind fun G253 =>
  k196 t G253
def fX5_go_b196 (E : g_E) : Nat → Nat → g_G → Option (g_G)
  | 0, _, _ => none
  | n + 1, t, G =>
    (grI G 5 5 (some t) 2).bind fun x198 =>
    (gchk G 5 (some t)).bind fun b201 =>
    (fX5_byteAt E b201 x198 G).bind fun z201 =>
    (fX5_isDigit E z201.1 z201.2).bind fun z204 =>
    if z204.1 = 0 then (
      (grI z204.2 5 5 (some t) 2).bind fun x261 =>
      (grI z204.2 5 5 (some t) 3).bind fun x265 =>
      if (x261 - x265) ≤ (4 : Int32) then (
        fX5_go_b278 E t (some t) 0 z204.2)
      else (
        fX5_go_b278 E t (some t) 1 z204.2))
    else (
      (grI z204.2 5 5 (some t) 2).bind fun x211 =>
      (grI z204.2 5 5 (some t) 3).bind fun x215 =>
      if (4 : Int32) ≤ (x211 - x215) then (
        fX5_go_b246 E (fX5_go_b196 E n) t z204.2)
      else (
        (grI z204.2 5 5 (some t) 4).bind fun x227 =>
        (grI z204.2 5 5 (some t) 2).bind fun x233 =>
        (gchk z204.2 5 (some t)).bind fun b236 =>
        (fX5_byteAt E b236 x233 z204.2).bind fun z236 =>
        (gpI E z236.2 5 5 (some t) 4 (((10 * x227) + z236.1) - 48)).bind fun G243 =>
        fX5_go_b246 E (fX5_go_b196 E n) t G243))
def fX5_go_b153 (E : g_E) (k116 : Nat → (Option Nat) → g_G → Option (g_G)) (t : Nat) (v2 : Option Nat) (G : g_G) : Option (g_G) :=
  (grI G 5 5 (some t) 2).bind fun x155 =>
  (gpI E G 5 5 (some t) 2 (x155 + 1)).bind fun G160 =>
  k116 t v2 G160
def fX5_go_b116 (E : g_E) : Nat → Nat → (Option Nat) → g_G → Option (g_G)
  | 0, _, _, _ => none
  | n + 1, t, v2, G =>
    (grI G 5 5 (some t) 2).bind fun x118 =>
    (gchk G 5 (some t)).bind fun b121 =>
    (fX5_byteAt E b121 x118 G).bind fun z121 =>
    (fX5_isLetter E z121.1 z121.2).bind fun z124 =>
    if z124.1 = 0 then (
      (gchk z124.2 18 v2).bind fun b168 =>
      (fJ8_toString E b168 z124.2).bind fun z168 =>
      (gpR E z168.2 5 5 (some t) 9 z168.1).bind fun G171 =>
      (gpR E G171 5 5 (some t) 8 (some (gA E 1))).bind fun G178 =>
      some G178)
    else (
      (gchk z124.2 18 v2).bind fun b131 =>
      (fJ8_length E b131 z124.2).bind fun z131 =>
      if (6 : Int32) ≤ z131.1 then (
        fX5_go_b153 E (fX5_go_b116 E n) t v2 z131.2)
      else (
        (grI z131.2 5 5 (some t) 2).bind fun x142 =>
        (gchk z131.2 5 (some t)).bind fun b145 =>
        (fX5_byteAt E b145 x142 z131.2).bind fun z145 =>
        (gchk z145.2 18 v2).bind fun b149 =>
        (fJ8_append_3 E b149 (UInt32.toInt32 (Int32.toUInt32 z145.1 % 65536)) z145.2).bind fun z149 =>
        fX5_go_b153 E (fX5_go_b116 E n) t v2 z149.2))
def fX5_go_b50 (E : g_E) (t : Nat) (G : g_G) : Option (g_G) :=
  (grI G 5 5 (some t) 2).bind fun x52 =>
  (gpI E G 5 5 (some t) 3 x52).bind fun G55 =>
  (gpR E G55 5 5 (some t) 9 (some (gA E 20))).bind fun G61 =>
  (gpZ E G61 5 5 (some t) 7 0).bind fun G66 =>
  (grI G66 5 5 (some t) 2).bind fun x71 =>
  (gchk G66 5 (some t)).bind fun b74 =>
  (fX5_byteAt E b74 x71 G66).bind fun z74 =>
  (grI z74.2 5 5 (some t) 2).bind fun x79 =>
  (grI z74.2 5 5 (some t) 1).bind fun x83 =>
  if x79 < x83 then (
    (fX5_isLetter E z74.1 z74.2).bind fun z100 =>
    if z100.1 = 0 then (
      (fX5_isDigit E z74.1 z100.2).bind fun z185 =>
      if z185.1 = 0 then (
        (gchk z185.2 19 (some (gA E 21))).bind fun b295 =>
        (fJ9_indexOf E b295 z74.1 z185.2).bind fun z295 =>
        if z295.1 < 0 then (
          fX5_go_b310 E t z74.1 (some t) (some (gA E 4)) z295.2)
        else (
          fX5_go_b310 E t z74.1 (some t) (some (gA E 3)) z295.2))
      else (
        (gpI E z185.2 5 5 (some t) 4 0).bind fun G193 =>
        fX5_go_b196 E gFU t G193))
    else (
      (gnewO E z100.2 18 4).bind fun z106 =>
      (fJ8_init_2 E z106.1 6 z106.2).bind fun z112 =>
      fX5_go_b116 E gFU t (some z106.1) z112))
  else (
    (gpR E z74.2 5 5 (some t) 8 (some (gA E 5))).bind fun G93 =>
    some G93)
def fX5_go_b37 (E : g_E) (k0 : Nat → g_G → Option (g_G)) (t : Nat) (G : g_G) : Option (g_G) :=
  (grI G 5 5 (some t) 2).bind fun x39 =>
  (gpI E G 5 5 (some t) 2 (x39 + 1)).bind fun G44 =>
  k0 t G44
def fX5_go_b0 (E : g_E) : Nat → Nat → g_G → Option (g_G)
  | 0, _, _ => none
  | n + 1, t, G =>
    (grI G 5 5 (some t) 2).bind fun x1 =>
    (grI G 5 5 (some t) 1).bind fun x5 =>
    if x5 ≤ x1 then (
      fX5_go_b50 E t G)
    else (
      (grI G 5 5 (some t) 2).bind fun x13 =>
      (gchk G 5 (some t)).bind fun b16 =>
      (fX5_byteAt E b16 x13 G).bind fun z16 =>
      if z16.1 = (32 : Int32) then (
        fX5_go_b37 E (fX5_go_b0 E n) t z16.2)
      else (
        (grI z16.2 5 5 (some t) 2).bind fun x26 =>
        (gchk z16.2 5 (some t)).bind fun b29 =>
        (fX5_byteAt E b29 x26 z16.2).bind fun z29 =>
        if ¬ z29.1 = (10 : Int32) then (
          fX5_go_b50 E t z29.2)
        else (
          fX5_go_b37 E (fX5_go_b0 E n) t z29.2)))
def fX5_go (E : g_E) (t : Nat) (G : g_G) : Option (g_G) :=
  fX5_go_b0 E gFU t G
def fX5_init (E : g_E) (t : Nat) (v1 : Option Nat) (v2 : Int32) (G : g_G) : Option (g_G) :=
  (gpR E G 5 5 (some t) 9 (some (gA E 20))).bind fun G7 =>
  (gnewO E G7 2 3).bind fun z11 =>
  (fX2_init E z11.1 z11.2).bind fun z15 =>
  (gpR E z15 5 5 (some t) 10 (some z11.1)).bind fun G18 =>
  (gnewO E G18 17 3).bind fun z22 =>
  (fJ2_init E z22.1 1 z22.2).bind fun z27 =>
  (gpR E z27 5 5 (some t) 11 (some z22.1)).bind fun G30 =>
  (gnewO E G30 17 3).bind fun z34 =>
  (fJ2_init E z34.1 1 z34.2).bind fun z39 =>
  (gpR E z39 5 5 (some t) 12 (some z34.1)).bind fun G42 =>
  (gnewO E G42 17 3).bind fun z46 =>
  (fJ2_init E z46.1 1 z46.2).bind fun z51 =>
  (gpR E z51 5 5 (some t) 13 (some z46.1)).bind fun G54 =>
  (gpR E G54 5 5 (some t) 0 v1).bind fun G59 =>
  (gpI E G59 5 5 (some t) 1 v2).bind fun G64 =>
  (gchk G64 5 (some t)).bind fun b68 =>
  (fX5_go E b68 G64).bind fun z68 =>
  some z68
def fX5_need (E : g_E) (t : Nat) (v1 : Option Nat) (G : g_G) : Option ((g_G) ⊕ gX) :=
  (gchk G 5 (some t)).bind fun b3 =>
  (fX5_is E b3 v1 G).bind fun z3 =>
  (gchk z3.2 5 (some t)).bind fun b7 =>
  gcat (fX5_check E b7 z3.1 1 z3.2) (fun z7 =>
    (gchk z7 5 (some t)).bind fun b11 =>
    (fX5_go E b11 z7).bind fun z11 =>
    some (.inl z11))
  (fun y => some (.inr y))
def fX5_number_b49 (E : g_E) (t : Nat) (s0 : Option Nat) (s1 : Int32) (G : g_G) : Option ((Int32 × g_G) ⊕ gX) :=
  (gchk G 5 s0).bind fun b50 =>
  gcat (fX5_check E b50 s1 2 G) (fun z50 =>
    (grI z50 5 5 (some t) 4).bind fun x54 =>
    (gchk z50 5 (some t)).bind fun b59 =>
    (fX5_go E b59 z50).bind fun z59 =>
    some (.inl (x54, z59)))
  (fun y => some (.inr y))
def fX5_number_b48 (E : g_E) (t : Nat) (s0 : Option Nat) (G : g_G) : Option ((Int32 × g_G) ⊕ gX) :=
  fX5_number_b49 E t s0 0 G
def fX5_number_b16 (E : g_E) (t : Nat) (v1 : Int32) (v2 : Int32) (s0 : Option Nat) (s1 : Int32) (G : g_G) : Option ((Int32 × g_G) ⊕ gX) :=
  (gchk G 5 s0).bind fun b17 =>
  gcat (fX5_check E b17 s1 1 G) (fun z17 =>
    (grI z17 5 5 (some t) 7).bind fun x22 =>
    if ¬ x22 = 0 then (
      fX5_number_b48 E t (some t) z17)
    else (
      (grI z17 5 5 (some t) 4).bind fun x29 =>
      if x29 < v1 then (
        fX5_number_b48 E t (some t) z17)
      else (
        (grI z17 5 5 (some t) 4).bind fun x37 =>
        if v2 < x37 then (
          fX5_number_b48 E t (some t) z17)
        else (
          fX5_number_b49 E t (some t) 1 z17))))
  (fun y => some (.inr y))
def fX5_number (E : g_E) (t : Nat) (v1 : Int32) (v2 : Int32) (G : g_G) : Option ((Int32 × g_G) ⊕ gX) :=
  (grR G 5 5 (some t) 8).bind fun x2 =>
  if ¬ x2 = (some (gA E 2)) then (
    fX5_number_b16 E t v1 v2 (some t) 0 G)
  else (
    fX5_number_b16 E t v1 v2 (some t) 1 G)
def fX5_part_b169 (E : g_E) (fE : g_E → Nat → g_G → Option ((Option Nat × g_G) ⊕ gX)) (t : Nat) (v1 : Int32) (s0 : Option Nat) (s1 : Int32) (G : g_G) : Option ((Option Nat × g_G) ⊕ gX) :=
  (gchk G 5 s0).bind fun b170 =>
  gcat (fX5_check E b170 s1 3 G) (fun z170 =>
    (gchk z170 5 (some t)).bind fun b174 =>
    (fX5_go E b174 z170).bind fun z174 =>
    (gnewO E z174 10 1).bind fun z177 =>
    (fX12_init E z177.1 v1 z177.2).bind fun z182 =>
    some (.inl ((some z177.1), z182)))
  (fun y => some (.inr y))
def fX5_part_b146 (E : g_E) (fE : g_E → Nat → g_G → Option ((Option Nat × g_G) ⊕ gX)) (t : Nat) (s0 : Option Nat) (s1 : Int32) (G : g_G) : Option ((Option Nat × g_G) ⊕ gX) :=
  (gchk G 5 s0).bind fun b147 =>
  gcat (fX5_check E b147 s1 1 G) (fun z147 =>
    (grR z147 5 5 (some t) 9).bind fun x151 =>
    (fX5_valueOf E x151 z147).bind fun z154 =>
    if z154.1 = (-1 : Int32) then (
      fX5_part_b169 E fE t z154.1 (some t) 0 z154.2)
    else (
      fX5_part_b169 E fE t z154.1 (some t) 1 z154.2))
  (fun y => some (.inr y))
def fX5_part (E : g_E) (fE : g_E → Nat → g_G → Option ((Option Nat × g_G) ⊕ gX)) (t : Nat) (G : g_G) : Option ((Option Nat × g_G) ⊕ gX) :=
  (grI G 5 5 (some t) 6).bind fun x1 =>
  if x1 ≤ (6 : Int32) then (
    (grR G 5 5 (some t) 8).bind fun x57 =>
    if ¬ x57 = (some (gA E 2)) then (
      (gchk G 5 (some t)).bind fun b86 =>
      (fX5_is E b86 (some (gA E 33)) G).bind fun z86 =>
      if z86.1 = 0 then (
        (grR z86.2 5 5 (some t) 8).bind fun x132 =>
        if ¬ x132 = (some (gA E 1)) then (
          fX5_part_b146 E fE t (some t) 0 z86.2)
        else (
          fX5_part_b146 E fE t (some t) 1 z86.2))
      else (
        (gchk z86.2 5 (some t)).bind fun b93 =>
        (fX5_go E b93 z86.2).bind fun z93 =>
        (grI z93 5 5 (some t) 6).bind fun x98 =>
        (gpI E z93 5 5 (some t) 6 (x98 + 1)).bind fun G103 =>
        (gchk G103 5 (some t)).bind fun b107 =>
        gcat (fE E b107 G103) (fun z107 =>
          (grI z107.2 5 5 (some t) 6).bind fun x113 =>
          (gpI E z107.2 5 5 (some t) 6 (x113 - 1)).bind fun G118 =>
          (gchk G118 5 (some t)).bind fun b125 =>
          gcat (fX5_need E b125 (some (gA E 36)) G118) (fun z125 =>
            some (.inl (z107.1, z125)))
          (fun y => some (.inr y)))
        (fun y => some (.inr y))))
    else (
      (gnewO E G 8 1).bind fun z66 =>
      (gchk z66.2 5 (some t)).bind fun b75 =>
      gcat (fX5_number E b75 0 9999 z66.2) (fun z75 =>
        (fX10_init E z66.1 z75.1 z75.2).bind fun z78 =>
        some (.inl ((some z66.1), z78)))
      (fun y => some (.inr y))))
  else (
    (gnewO E G 6 8).bind fun z9 =>
    (grR z9.2 5 5 (some t) 8).bind fun x14 =>
    if x14 = (some (gA E 2)) then (
      (grI z9.2 5 5 (some t) 3).bind fun x49 =>
      (fX6_init E z9.1 2 x49 z9.2).bind fun z52 =>
      (gthr E z52 6 (some z9.1)).bind fun b55 => some (.inr (6, b55, z52)))
    else (
      (grR z9.2 5 5 (some t) 8).bind fun x24 =>
      if x24 = (some (gA E 1)) then (
        (grI z9.2 5 5 (some t) 3).bind fun x49 =>
        (fX6_init E z9.1 2 x49 z9.2).bind fun z52 =>
        (gthr E z52 6 (some z9.1)).bind fun b55 => some (.inr (6, b55, z52)))
      else (
        (gchk z9.2 5 (some t)).bind fun b37 =>
        (fX5_is E b37 (some (gA E 33)) z9.2).bind fun z37 =>
        if z37.1 = 0 then (
          (grI z37.2 5 5 (some t) 3).bind fun x49 =>
          (fX6_init E z9.1 1 x49 z37.2).bind fun z52 =>
          (gthr E z52 6 (some z9.1)).bind fun b55 => some (.inr (6, b55, z52)))
        else (
          (grI z37.2 5 5 (some t) 3).bind fun x49 =>
          (fX6_init E z9.1 2 x49 z37.2).bind fun z52 =>
          (gthr E z52 6 (some z9.1)).bind fun b55 => some (.inr (6, b55, z52))))))
def fX5_var_b58 (E : g_E) (t : Nat) (v1 : Int32) (s0 : Option Nat) (s1 : Int32) (G : g_G) : Option ((Int32 × g_G) ⊕ gX) :=
  (gchk G 5 s0).bind fun b59 =>
  gcat (fX5_check E b59 s1 3 G) (fun z59 =>
    (gchk z59 5 (some t)).bind fun b63 =>
    (fX5_go E b63 z59).bind fun z63 =>
    some (.inl (v1, z63)))
  (fun y => some (.inr y))
def fX5_var_b46 (E : g_E) (t : Nat) (s0 : Int32) (G : g_G) : Option ((Int32 × g_G) ⊕ gX) :=
  if (4 : Int32) ≤ s0 then (
    fX5_var_b58 E t s0 (some t) 0 G)
  else (
    fX5_var_b58 E t s0 (some t) 1 G)
def fX5_var_b16 (E : g_E) (t : Nat) (s0 : Option Nat) (s1 : Int32) (G : g_G) : Option ((Int32 × g_G) ⊕ gX) :=
  (gchk G 5 s0).bind fun b17 =>
  gcat (fX5_check E b17 s1 1 G) (fun z17 =>
    (grR z17 5 5 (some t) 9).bind fun x21 =>
    (gchk z17 19 x21).bind fun b24 =>
    (fJ9_length E b24 z17).bind fun z24 =>
    if ¬ z24.1 = (1 : Int32) then (
      fX5_var_b46 E t 4 z24.2)
    else (
      (grR z24.2 5 5 (some t) 9).bind fun x32 =>
      (gchk z24.2 19 x32).bind fun b36 =>
      (fJ9_charAt E b36 0 z24.2).bind fun z36 =>
      fX5_var_b46 E t (z36.1 - 97) z36.2))
  (fun y => some (.inr y))
def fX5_var (E : g_E) (t : Nat) (G : g_G) : Option ((Int32 × g_G) ⊕ gX) :=
  (grR G 5 5 (some t) 8).bind fun x2 =>
  if ¬ x2 = (some (gA E 1)) then (
    fX5_var_b16 E t (some t) 0 G)
  else (
    fX5_var_b16 E t (some t) 1 G)
def fJ2_add_2 (E : g_E) (t : Nat) (v1 : Option Nat) (G : g_G) : Option (Int32 × g_G) :=
  (grI G 17 17 (some t) 0).bind fun x2 =>
  (gpI E G 17 17 (some t) 0 (x2 + 1)).bind fun G7 =>
  (grR G7 17 17 (some t) 1).bind fun x13 =>
  (grI G7 17 17 (some t) 2).bind fun x17 =>
  (gchk G7 17 (some t)).bind fun b20 =>
  (fJ2_add_3 E b20 v1 x13 x17 G7).bind fun z20 =>
  if (1 : Int32) = 0 ∨ (1 : Int32) = 1 then some (1, z20) else none
def fX0_of (E : g_E) (v0 : Option Nat) (v1 : Int32) (v2 : Int32) (v3 : Option Nat) (G : g_G) : Option ((Int32 × g_G) ⊕ gX) :=
  (gchk G 1 v0).bind fun b5 =>
  gcat (fX1_of E b5 v1 v2 G) (fun z5 =>
    (gsaL E z5.2 v3 0 (Int32.toInt64 z5.1)).bind fun G9 =>
    some (.inl (0, G9)))
  (fun y => if y.1 = 22 then (
    some (.inl (1, y.2.2))) else none)
def fX11_add (E : g_E) (t : Nat) (v1 : Int32) (v2 : Option Nat) (G : g_G) : Option (g_G) :=
  (grR G 9 9 (some t) 1).bind fun x1 =>
  (fJ17_valueOf E v1 G).bind fun z5 =>
  (gchk z5.2 17 x1).bind fun b8 =>
  (fJ2_add_2 E b8 z5.1 z5.2).bind fun z8 =>
  (grR z8.2 9 9 (some t) 0).bind fun x13 =>
  (gchk z8.2 17 x13).bind fun b17 =>
  (fJ2_add_2 E b17 v2 z8.2).bind fun z17 =>
  some z17.2
def fX11_init (E : g_E) (t : Nat) (v1 : Option Nat) (G : g_G) : Option (g_G) :=
  (gnewO E G 17 3).bind fun z5 =>
  (fJ2_init E z5.1 2 z5.2).bind fun z10 =>
  (gpR E z10 9 9 (some t) 0 (some z5.1)).bind fun G13 =>
  (gnewO E G13 17 3).bind fun z17 =>
  (fJ2_init E z17.1 1 z17.2).bind fun z22 =>
  (gpR E z22 9 9 (some t) 1 (some z17.1)).bind fun G25 =>
  (grR G25 9 9 (some t) 0).bind fun x29 =>
  (gchk G25 17 x29).bind fun b33 =>
  (fJ2_add_2 E b33 v1 G25).bind fun z33 =>
  some z33.2
def fX1_begins_b73 (E : g_E) : Nat → Nat → (Option Nat) → Int32 → Int32 → g_G → Option (g_G)
  | 0, _, _, _, _, _ => none
  | n + 1, t, v1, v2, v3, G =>
    if v2 ≤ v3 then (
      some G)
    else (
      (grR G 1 1 (some t) 4).bind fun x82 =>
      (grR G 2 2 x82 1).bind fun x85 =>
      (gchk G 1 (some t)).bind fun b88 =>
      (fX1_goes E b88 v1 v3 x85 G).bind fun z88 =>
      fX1_begins_b73 E n t v1 v2 (v3 + 1) z88)
def fX1_begins_b41 (E : g_E) (k12 : Nat → (Option Nat) → Int32 → Int32 → g_G → Option (g_G)) : Nat → Nat → (Option Nat) → Int32 → Int32 → Int32 → g_G → Option (g_G)
  | 0, _, _, _, _, _, _ => none
  | n + 1, t, v1, v2, v3, v4, G =>
    if (4 : Int32) ≤ v4 then (
      k12 t v1 v2 (v3 + 1) G)
    else (
      (grR G 3 3 v1 5).bind fun x48 =>
      (gsaI E G x48 ((4 * v3) + v4) 0).bind fun G58 =>
      fX1_begins_b41 E k12 n t v1 v2 v3 (v4 + 1) G58)
def fX1_begins_b12 (E : g_E) : Nat → Nat → (Option Nat) → Int32 → Int32 → g_G → Option (g_G)
  | 0, _, _, _, _, _ => none
  | n + 1, t, v1, v2, v3, G =>
    if v2 ≤ v3 then (
      fX1_begins_b73 E gFU t v1 v2 0 G)
    else (
      (grR G 3 3 v1 4).bind fun x18 =>
      (gsaZ E G x18 v3 0).bind fun G23 =>
      (grR G23 3 3 v1 6).bind fun x25 =>
      (gsaI E G23 x25 v3 0).bind fun G30 =>
      (grR G30 3 3 v1 7).bind fun x32 =>
      (gsaI E G30 x32 v3 0).bind fun G37 =>
      fX1_begins_b41 E (fX1_begins_b12 E n) gFU t v1 v2 v3 0 G37)
def fX1_begins (E : g_E) (t : Nat) (v1 : Option Nat) (v2 : Int32) (G : g_G) : Option (g_G) :=
  (gpI E G 3 3 v1 0 v2).bind fun G2 =>
  (gpI E G2 3 3 v1 1 0).bind fun G7 =>
  fX1_begins_b12 E gFU t v1 v2 0 G7
def fX1_gets (E : g_E) (t : Nat) (v1 : Option Nat) (v2 : Int32) (v3 : Int32) (v4 : Int32) (v5 : Int32) (G : g_G) : Option (g_G) :=
  (grR G 3 3 v1 3).bind fun x1 =>
  (gaR G 122 x1 v2).bind fun x5 =>
  (gcast G 16 16 x5).bind fun x6 =>
  (grR G 3 3 v1 5).bind fun x12 =>
  (grI G 16 16 x6 5).bind fun x20 =>
  (gsaI E G x12 ((4 * v2) + x20) v4).bind fun G26 =>
  (grR G26 3 3 v1 6).bind fun x28 =>
  (gsaI E G26 x28 v2 v3).bind fun G33 =>
  (grI G33 16 16 x6 6).bind fun x41 =>
  if (if 0 ≤ v5 then v5 else 0 - v5) ≤ x41 then (
    (grR G33 16 16 x6 2).bind fun x62 =>
    (gchk G33 1 (some t)).bind fun b65 =>
    (fX1_goes E b65 v1 v2 x62 G33).bind fun z65 =>
    some z65)
  else (
    (grR G33 3 3 v1 4).bind fun x48 =>
    (gsaZ E G33 x48 v2 1).bind fun G53 =>
    some G53)
def fX1_sends_b187 (E : g_E) (t : Nat) (v1 : Option Nat) (v2 : Int32) (v3 : Option Nat) (G : g_G) : Option (g_G) :=
  (grR G 15 15 v3 2).bind fun x191 =>
  (gchk G 1 (some t)).bind fun b194 =>
  (fX1_goes E b194 v1 v2 x191 G).bind fun z194 =>
  some z194
def fX1_sends_b89 (E : g_E) (t : Nat) (v1 : Option Nat) (v2 : Int32) (v3 : Option Nat) (v6 : Int32) (s0 : Option Nat) (s1 : Int32) (s2 : Int32) (s3 : Int32) (s4 : Int32) (s5 : Int32) (G : g_G) : Option (g_G) :=
  (grR G 1 1 (some t) 6).bind fun x90 =>
  (gaI G 100 x90 v2).bind fun x94 =>
  (gchk G 3 s0).bind fun b98 =>
  (fX3_lie E b98 s1 s2 s3 s4 s5 (x94 + v6) G).bind fun z98 =>
  fX1_sends_b187 E t v1 v2 v3 z98
def fX1_sends (E : g_E) (t : Nat) (v1 : Option Nat) (v2 : Int32) (v3 : Option Nat) (v4 : Int32) (G : g_G) : Option (g_G) :=
  (gchk G 15 v3).bind fun b3 =>
  (fX9_to E b3 v1 v2 G).bind fun z3 =>
  (grI z3.2 1 1 (some t) 2).bind fun x9 =>
  (grI z3.2 1 1 (some t) 3).bind fun x13 =>
  (gchk z3.2 1 (some t)).bind fun b32 =>
  (fX1_mayLie E b32 v1 v2 v4 z3.2).bind fun z32 =>
  if z32.1 = 0 then (
    (grR z32.2 1 1 (some t) 6).bind fun x105 =>
    (gaI z32.2 100 x105 v2).bind fun x109 =>
    (grR z32.2 1 1 (some t) 6).bind fun x111 =>
    (gaI z32.2 100 x111 z3.1).bind fun x116 =>
    (gchk z32.2 1 (some t)).bind fun b126 =>
    (fX1_clocks E b126 v2 (if x109 < x116 then x116 else x109) z32.2).bind fun z126 =>
    (gchk z126 1 (some t)).bind fun b134 =>
    (fX1_clocks E b134 z3.1 (if x109 < x116 then x116 else x109) z126).bind fun z134 =>
    (grR z134 1 1 (some t) 6).bind fun x138 =>
    (gaI z134 100 x138 v2).bind fun x143 =>
    (gsaI E z134 x138 v2 (x143 + (1 + (x9 + (x13 * (if 0 ≤ (v2 - z3.1) then (v2 - z3.1) else 0 - (v2 - z3.1))))))).bind fun G149 =>
    (grR G149 1 1 (some t) 6).bind fun x151 =>
    (gaI G149 100 x151 z3.1).bind fun x157 =>
    (gsaI E G149 x151 z3.1 (x157 + (1 + (x9 + (x13 * (if 0 ≤ (v2 - z3.1) then (v2 - z3.1) else 0 - (v2 - z3.1))))))).bind fun G163 =>
    (grR G163 15 15 v3 5).bind fun x170 =>
    (fI_value E gDP x170 v1 v2 G163).bind fun z175 =>
    (grI z175.2 15 15 v3 6).bind fun x181 =>
    (gchk z175.2 1 (some t)).bind fun b184 =>
    (fX1_gets E b184 v1 z3.1 v2 z175.1 x181 z175.2).bind fun z184 =>
    fX1_sends_b187 E t v1 v2 v3 z184)
  else (
    (grR z32.2 1 1 (some t) 6).bind fun x39 =>
    (gaI z32.2 100 x39 v2).bind fun x44 =>
    (gsaI E z32.2 x39 v2 (x44 + 1)).bind fun G47 =>
    (gchk G47 15 v3).bind fun b55 =>
    (fX8_mark E b55 v1 v2 G47).bind fun z55 =>
    (grR z55.2 15 15 v3 5).bind fun x59 =>
    (fI_value E gDP x59 v1 v2 z55.2).bind fun z64 =>
    (grI z64.2 15 15 v3 0).bind fun x70 =>
    if ¬ x70 = (2 : Int32) then (
      (grI z64.2 15 15 v3 6).bind fun x86 =>
      fX1_sends_b89 E t v1 v2 v3 (x9 + (x13 * (if 0 ≤ (v2 - z3.1) then (v2 - z3.1) else 0 - (v2 - z3.1)))) v1 v2 z3.1 z55.1 z64.1 x86 z64.2)
    else (
      (grI z64.2 15 15 v3 6).bind fun x78 =>
      fX1_sends_b89 E t v1 v2 v3 (x9 + (x13 * (if 0 ≤ (v2 - z3.1) then (v2 - z3.1) else 0 - (v2 - z3.1)))) v1 v2 z3.1 z55.1 z64.1 (-x78) z64.2))
def fX1_takes_b88 (E : g_E) (t : Nat) (v1 : Option Nat) (v2 : Int32) (v3 : Int32) (v4 : Int32) (v5 : Int32) (v6 : Int32) (G : g_G) : Option (g_G) :=
  (gchk G 3 v1).bind fun b91 =>
  (fX3_takeOut E b91 v4 G).bind fun z91 =>
  (gchk z91 1 (some t)).bind fun b102 =>
  (fX1_gets E b102 v1 v2 v3 v5 v6 z91).bind fun z102 =>
  some z102
def fX1_takes (E : g_E) (t : Nat) (v1 : Option Nat) (v2 : Int32) (v3 : Int32) (G : g_G) : Option (g_G) :=
  (grR G 3 3 v1 3).bind fun x4 =>
  (gaR G 122 x4 v2).bind fun x8 =>
  (gcast G 16 16 x8).bind fun x9 =>
  (gchk G 16 x9).bind fun b14 =>
  (fX8_mark E b14 v1 v2 G).bind fun z14 =>
  (gchk z14.2 3 v1).bind fun b17 =>
  (fX3_first E b17 v3 v2 z14.1 z14.2).bind fun z17 =>
  (grR z17.2 3 3 v1 10).bind fun x23 =>
  (gaI z17.2 100 x23 z17.1).bind fun x28 =>
  (grR z17.2 3 3 v1 11).bind fun x32 =>
  (gaI z17.2 100 x32 z17.1).bind fun x37 =>
  (grR z17.2 3 3 v1 12).bind fun x43 =>
  (gaI z17.2 100 x43 z17.1).bind fun x48 =>
  (gchk z17.2 1 (some t)).bind fun b49 =>
  (fX1_clocks E b49 v2 x48 z17.2).bind fun z49 =>
  (grR z49 1 1 (some t) 6).bind fun x53 =>
  (gaI z49 100 x53 v2).bind fun x58 =>
  (gsaI E z49 x53 v2 (x58 + 1)).bind fun G61 =>
  if 0 ≤ x37 then (
    fX1_takes_b88 E t v1 v2 v3 z17.1 x28 x37 G61)
  else (
    (grR G61 1 1 (some t) 8).bind fun x68 =>
    (grR G61 1 1 (some t) 8).bind fun x73 =>
    (gaI G61 100 x73 v3).bind fun x77 =>
    (grR G61 1 1 (some t) 6).bind fun x79 =>
    (gaI G61 100 x79 v2).bind fun x83 =>
    (gsaI E G61 x68 v3 (if x77 < x83 then x83 else x77)).bind fun G87 =>
    fX1_takes_b88 E t v1 v2 v3 z17.1 x28 x37 G87)
def fX4_from_b139 (E : g_E) (k9 : Nat → Int32 → Int32 → g_G → Option (g_G)) (t : Nat) (v1 : Int32) (v2 : Int32) (G : g_G) : Option (g_G) :=
  k9 t v1 (v2 + 1) G
def fX4_from_b133 (E : g_E) (k9 : Nat → Int32 → Int32 → g_G → Option (g_G)) (k39 : Nat → Int32 → Int32 → Int32 → Int32 → g_G → Option (g_G)) (t : Nat) (v1 : Int32) (v2 : Int32) (v3 : Int32) (v4 : Int32) (G : g_G) : Option (g_G) :=
  k39 t v1 v2 v3 (v4 + 1) G
def fX4_from_b129 (E : g_E) (k9 : Nat → Int32 → Int32 → g_G → Option (g_G)) (k39 : Nat → Int32 → Int32 → Int32 → Int32 → g_G → Option (g_G)) (t : Nat) (v1 : Int32) (v2 : Int32) (v3 : Int32) (v4 : Int32) (G : g_G) : Option (g_G) :=
  (gchk G 4 (some t)).bind fun b130 =>
  (fX4_keep E b130 G).bind fun z130 =>
  fX4_from_b133 E k9 k39 t v1 v2 v3 v4 z130
def fX4_from_b53 (E : g_E) (k9 : Nat → Int32 → Int32 → g_G → Option (g_G)) (k39 : Nat → Int32 → Int32 → Int32 → Int32 → g_G → Option (g_G)) (t : Nat) (v1 : Int32) (v2 : Int32) (v3 : Int32) (v4 : Int32) (s0 : Int32) (s1 : Int32) (G : g_G) : Option (g_G) :=
  if s1 ≤ s0 then (
    fX4_from_b139 E k9 t v1 v2 G)
  else (
    (grI G 4 4 (some t) 48).bind fun x57 =>
    if ¬ x57 = 0 then (
      fX4_from_b139 E k9 t v1 v2 G)
    else (
      (gchk G 4 (some t)).bind fun b65 =>
      (fX4_bring E b65 v1 G).bind fun z65 =>
      (gchk z65 4 (some t)).bind fun b72 =>
      (fX4_can E b72 v2 v4 z65).bind fun z72 =>
      if ¬ z72.1 = 0 then (
        (grR z72.2 4 4 (some t) 45).bind fun x82 =>
        (gsaZ E z72.2 x82 v1 0).bind fun G87 =>
        (gchk G87 4 (some t)).bind fun b92 =>
        (fX4_move E b92 v2 v4 G87).bind fun z92 =>
        (grI z92 4 4 (some t) 40).bind fun x96 =>
        if x96 = (-1 : Int32) then (
          fX4_from_b129 E k9 k39 t v1 v2 v3 v4 z92)
        else (
          (grR z92 4 4 (some t) 49).bind fun x104 =>
          (grI z92 4 4 (some t) 40).bind fun x110 =>
          (grI z92 4 4 (some t) 42).bind fun x115 =>
          (gaI z92 100 x104 ((40 * x110) + x115)).bind fun x120 =>
          (grI z92 4 4 (some t) 41).bind fun x123 =>
          (gsaI E z92 x104 ((40 * x110) + x115) (x120 ||| (1 <<< (x123 &&& 31)))).bind fun G128 =>
          fX4_from_b129 E k9 k39 t v1 v2 v3 v4 G128))
      else (
        fX4_from_b133 E k9 k39 t v1 v2 v3 v4 z72.2)))
def fX4_from_b39 (E : g_E) (k9 : Nat → Int32 → Int32 → g_G → Option (g_G)) : Nat → Nat → Int32 → Int32 → Int32 → Int32 → g_G → Option (g_G)
  | 0, _, _, _, _, _, _ => none
  | n + 1, t, v1, v2, v3, v4, G =>
    if v3 = 0 then (
      fX4_from_b53 E k9 (fX4_from_b39 E k9 n) t v1 v2 v3 v4 v4 1 G)
    else (
      (grI G 4 4 (some t) 3).bind fun x46 =>
      fX4_from_b53 E k9 (fX4_from_b39 E k9 n) t v1 v2 v3 v4 v4 x46 G)
def fX4_from_b9 (E : g_E) : Nat → Nat → Int32 → Int32 → g_G → Option (g_G)
  | 0, _, _, _, _ => none
  | n + 1, t, v1, v2, G =>
    (grI G 4 4 (some t) 3).bind fun x11 =>
    if x11 ≤ v2 then (
      some G)
    else (
      (grI G 4 4 (some t) 48).bind fun x18 =>
      if ¬ x18 = 0 then (
        some G)
      else (
        (gchk G 4 (some t)).bind fun b26 =>
        (fX4_bring E b26 v1 G).bind fun z26 =>
        (gchk z26 4 (some t)).bind fun b32 =>
        (fX4_isAt E b32 v2 4 z26).bind fun z32 =>
        fX4_from_b39 E (fX4_from_b9 E n) gFU t v1 v2 z32.1 0 z32.2))
def fX4_from (E : g_E) (t : Nat) (v1 : Int32) (G : g_G) : Option (g_G) :=
  (grR G 4 4 (some t) 45).bind fun x1 =>
  (gsaZ E G x1 v1 1).bind fun G6 =>
  fX4_from_b9 E gFU t v1 0 G6
def fX4_go_b73 (E : g_E) (t : Nat) (G : g_G) : Option (Int32 × g_G) :=
  (grI G 4 4 (some t) 48).bind fun x74 =>
  if ¬ x74 = 0 then (
    if (0 : Int32) = 0 ∨ (0 : Int32) = 1 then some (0, G) else none)
  else (
    if (1 : Int32) = 0 ∨ (1 : Int32) = 1 then some (1, G) else none)
def fX4_go_b47 (E : g_E) : Nat → Nat → Int32 → g_G → Option (Int32 × g_G)
  | 0, _, _, _ => none
  | n + 1, t, v1, G =>
    (grI G 4 4 (some t) 46).bind fun x49 =>
    if x49 ≤ v1 then (
      fX4_go_b73 E t G)
    else (
      (grI G 4 4 (some t) 48).bind fun x56 =>
      if ¬ x56 = 0 then (
        fX4_go_b73 E t G)
      else (
        (gchk G 4 (some t)).bind fun b64 =>
        (fX4_from E b64 v1 G).bind fun z64 =>
        fX4_go_b47 E n t (v1 + 1) z64))
def fX4_go_b17 (E : g_E) : Nat → Nat → Int32 → g_G → Option (Int32 × g_G)
  | 0, _, _, _ => none
  | n + 1, t, v1, G =>
    if (320 : Int32) ≤ v1 then (
      (gchk G 4 (some t)).bind fun b38 =>
      (fX4_begin E b38 G).bind fun z38 =>
      (gchk z38 4 (some t)).bind fun b42 =>
      (fX4_keep E b42 z38).bind fun z42 =>
      fX4_go_b47 E gFU t 0 z42)
    else (
      (grR G 4 4 (some t) 49).bind fun x25 =>
      (gsaI E G x25 v1 0).bind fun G30 =>
      fX4_go_b17 E n t (v1 + 1) G30)
def fX4_go (E : g_E) (t : Nat) (G : g_G) : Option (Int32 × g_G) :=
  (gpI E G 4 4 (some t) 46 0).bind fun G2 =>
  (gpZ E G2 4 4 (some t) 48 0).bind fun G7 =>
  (gpI E G7 4 4 (some t) 35 (-1)).bind fun G12 =>
  fX4_go_b17 E gFU t 0 G12
def fX4_least_b90 (E : g_E) (t : Nat) (v2 : Int32) (v3 : Int32) (v4 : Int32) (G : g_G) : Option (Int32 × g_G) :=
  (gpI E G 4 4 (some t) 4 v2).bind fun G92 =>
  (gpI E G92 4 4 (some t) 3 v3).bind fun G97 =>
  some (v4, G97)
def fX4_least_b84 (E : g_E) (k51 : Nat → Int32 → Int32 → Int32 → Int32 → g_G → Option (Int32 × g_G)) (t : Nat) (v2 : Int32) (v3 : Int32) (v4 : Int32) (v5 : Int32) (G : g_G) : Option (Int32 × g_G) :=
  k51 t v2 v3 v4 (v5 + 1) G
def fX4_least_b51 (E : g_E) : Nat → Nat → Int32 → Int32 → Int32 → Int32 → g_G → Option (Int32 × g_G)
  | 0, _, _, _, _, _, _ => none
  | n + 1, t, v2, v3, v4, v5, G =>
    if (8 : Int32) < v5 then (
      fX4_least_b90 E t v2 v3 v4 G)
    else (
      if ¬ v4 = (-1 : Int32) then (
        fX4_least_b90 E t v2 v3 v4 G)
      else (
        (gpI E G 4 4 (some t) 3 v5).bind fun G67 =>
        (gchk G67 4 (some t)).bind fun b73 =>
        (fX4_run E b73 0 0 G67).bind fun z73 =>
        if ¬ z73.1 = (2 : Int32) then (
          fX4_least_b84 E (fX4_least_b51 E n) t v2 v3 v4 v5 z73.2)
        else (
          fX4_least_b84 E (fX4_least_b51 E n) t v2 v3 v5 v5 z73.2)))
def fX4_least (E : g_E) (t : Nat) (v1 : Int32) (G : g_G) : Option (Int32 × g_G) :=
  (gpI E G 4 4 (some t) 2 0).bind fun G2 =>
  (fX4_isIn E v1 0 3 G2).bind fun z8 =>
  if ¬ z8.1 = 0 then (
    (gchk z8.2 4 (some t)).bind fun b21 =>
    (fX4_anySteps E b21 z8.2).bind fun z21 =>
    if z21.1 ≤ 0 then (
      (grI z21.2 4 4 (some t) 4).bind fun x31 =>
      (grI z21.2 4 4 (some t) 3).bind fun x36 =>
      (gpI E z21.2 4 4 (some t) 4 v1).bind fun G42 =>
      fX4_least_b51 E gFU t x31 x36 (-1) 2 G42)
    else (
      some ((-2), z21.2)))
  else (
    (gchk z8.2 4 (some t)).bind fun b16 =>
    (fX4_fail E b16 1 z8.2).bind fun z16 =>
    some (z16.1, z16.2))
def fX4_needs_b75 (E : g_E) (t : Nat) (v1 : Int32) (v2 : Int32) (G : g_G) : Option (Int32 × g_G) :=
  (gpI E G 4 4 (some t) 4 v1).bind fun G77 =>
  some (v2, G77)
def fX4_needs_b69 (E : g_E) (k17 : Nat → Int32 → Int32 → Int32 → Int32 → g_G → Option (Int32 × g_G)) (t : Nat) (v1 : Int32) (v2 : Int32) (v3 : Int32) (v4 : Int32) (G : g_G) : Option (Int32 × g_G) :=
  k17 t v1 v2 v3 (v4 + 1) G
def fX4_needs_b56 (E : g_E) (k17 : Nat → Int32 → Int32 → Int32 → Int32 → g_G → Option (Int32 × g_G)) (t : Nat) (v1 : Int32) (v2 : Int32) (v4 : Int32) (v5 : Int32) (s0 : Int32) (G : g_G) : Option (Int32 × g_G) :=
  if v5 = 0 then (
    fX4_needs_b69 E k17 t v1 v2 s0 v4 G)
  else (
    if ¬ s0 = 0 then (
      fX4_needs_b69 E k17 t v1 v2 s0 v4 G)
    else (
      fX4_needs_b69 E k17 t v1 v4 s0 v4 G))
def fX4_needs_b55 (E : g_E) (k17 : Nat → Int32 → Int32 → Int32 → Int32 → g_G → Option (Int32 × g_G)) (t : Nat) (v1 : Int32) (v2 : Int32) (v4 : Int32) (v5 : Int32) (G : g_G) : Option (Int32 × g_G) :=
  fX4_needs_b56 E k17 t v1 v2 v4 v5 0 G
def fX4_needs_b17 (E : g_E) : Nat → Nat → Int32 → Int32 → Int32 → Int32 → g_G → Option (Int32 × g_G)
  | 0, _, _, _, _, _, _ => none
  | n + 1, t, v1, v2, v3, v4, G =>
    if (3 : Int32) < v4 then (
      fX4_needs_b75 E t v1 v2 G)
    else (
      if v3 = 0 then (
        fX4_needs_b75 E t v1 v2 G)
      else (
        (gpI E G 4 4 (some t) 4 v4).bind fun G30 =>
        (gchk G30 4 (some t)).bind fun b34 =>
        (fX4_go E b34 G30).bind fun z34 =>
        if z34.1 = 0 then (
          fX4_needs_b55 E (fX4_needs_b17 E n) t v1 v2 v4 z34.1 z34.2)
        else (
          (gchk z34.2 4 (some t)).bind fun b45 =>
          (fX4_someLocks E b45 z34.2).bind fun z45 =>
          if z45.1 = 0 then (
            fX4_needs_b55 E (fX4_needs_b17 E n) t v1 v2 v4 z34.1 z45.2)
          else (
            fX4_needs_b56 E (fX4_needs_b17 E n) t v1 v2 v4 z34.1 1 z45.2))))
def fX4_needs (E : g_E) (t : Nat) (G : g_G) : Option (Int32 × g_G) :=
  (gpI E G 4 4 (some t) 2 0).bind fun G2 =>
  (grI G2 4 4 (some t) 4).bind fun x6 =>
  fX4_needs_b17 E gFU t x6 (-1) 1 0 G2
def fX4_play_b171 (E : g_E) : Nat → Nat → Int32 → Int32 → g_G → Option (Int32 × g_G)
  | 0, _, _, _, _ => none
  | n + 1, t, v4, v5, G =>
    (grI G 4 4 (some t) 59).bind fun x174 =>
    if x174 ≤ v5 then (
      (grI G 4 4 (some t) 3).bind fun x202 =>
      (gpI E G 4 4 (some t) 57 x202).bind fun G205 =>
      (grI G205 4 4 (some t) 8).bind fun x210 =>
      (gpI E G205 4 4 (some t) 58 x210).bind fun G213 =>
      some (v4, G213))
    else (
      (grR G 4 4 (some t) 69).bind fun x181 =>
      (grR G 4 4 (some t) 62).bind fun x187 =>
      (gaI G 100 x187 v5).bind fun x192 =>
      (gsaI E G x181 v5 x192).bind fun G193 =>
      fX4_play_b171 E n t v4 (v5 + 1) G193)
def fX4_play_b133 (E : g_E) : Nat → Nat → Int32 → Int32 → g_G → Option (Int32 × g_G)
  | 0, _, _, _, _ => none
  | n + 1, t, v4, v5, G =>
    if (64 : Int32) ≤ v5 then (
      (grI G 4 4 (some t) 59).bind fun x162 =>
      (gpI E G 4 4 (some t) 68 x162).bind fun G165 =>
      fX4_play_b171 E gFU t v4 0 G165)
    else (
      (grR G 4 4 (some t) 61).bind fun x141 =>
      (grR G 4 4 (some t) 33).bind fun x147 =>
      (gaI G 100 x147 v5).bind fun x152 =>
      (gsaI E G x141 v5 x152).bind fun G153 =>
      fX4_play_b133 E n t v4 (v5 + 1) G153)
def fX4_play_b70 (E : g_E) : Nat → Nat → Int32 → Int32 → g_G → Option (Int32 × g_G)
  | 0, _, _, _, _ => none
  | n + 1, t, v4, v5, G =>
    (grI G 4 4 (some t) 3).bind fun x73 =>
    if x73 ≤ v5 then (
      (gchk G 4 (some t)).bind fun b127 =>
      (fX4_tellRing E b127 G).bind fun z127 =>
      fX4_play_b133 E gFU t v4 0 z127)
    else (
      (grR G 4 4 (some t) 64).bind fun x80 =>
      (gchk G 4 (some t)).bind fun b88 =>
      (fX4_waitsFor E b88 v5 G).bind fun z88 =>
      (gsaI E z88.2 x80 v5 z88.1).bind fun G91 =>
      (grR G91 4 4 (some t) 66).bind fun x93 =>
      (grR G91 4 4 (some t) 36).bind fun x99 =>
      (gaI G91 100 x99 v5).bind fun x104 =>
      (gsaI E G91 x93 v5 x104).bind fun G105 =>
      (grR G105 4 4 (some t) 67).bind fun x107 =>
      (grR G105 4 4 (some t) 37).bind fun x113 =>
      (gaI G105 100 x113 v5).bind fun x118 =>
      (gsaI E G105 x107 v5 x118).bind fun G119 =>
      fX4_play_b70 E n t v4 (v5 + 1) G119)
def fX4_play_b24 (E : g_E) : Nat → Nat → Int32 → Int64 → Int32 → g_G → Option (Int32 × g_G)
  | 0, _, _, _, _, _ => none
  | n + 1, t, v1, v2, v4, G =>
    if v1 ≤ v4 then (
      (gchk G 4 (some t)).bind fun b62 =>
      (fX4_run E b62 v1 v2 G).bind fun z62 =>
      fX4_play_b70 E gFU t z62.1 0 z62.2)
    else (
      (grI G 4 4 (some t) 3).bind fun x41 =>
      if ((Int64.toInt32 (v2 >>> (Int32.toInt64 (4 * v4) &&& 63))) &&& 15) < x41 then (
        fX4_play_b24 E n t v1 v2 (v4 + 1) G)
      else (
        (gchk G 4 (some t)).bind fun b49 =>
        (fX4_fail E b49 1 G).bind fun z49 =>
        some (z49.1, z49.2)))
def fX4_play (E : g_E) (t : Nat) (v1 : Int32) (v2 : Int64) (G : g_G) : Option (Int32 × g_G) :=
  (gpI E G 4 4 (some t) 2 0).bind fun G2 =>
  (fX4_isIn E v1 0 16 G2).bind fun z9 =>
  if ¬ z9.1 = 0 then (
    fX4_play_b24 E gFU t v1 v2 0 z9.2)
  else (
    (gchk z9.2 4 (some t)).bind fun b17 =>
    (fX4_fail E b17 1 z9.2).bind fun z17 =>
    some (z17.1, z17.2))
def fX4_readBranches_b62 (E : g_E) (fN : g_E → Nat → Int32 → Int32 → g_G → Option (Int32 × g_G)) (t : Nat) (G : g_G) : Option (g_G) :=
  (gchk G 4 (some t)).bind fun b66 =>
  (fX4_word E b66 (some (gA E 55)) G).bind fun z66 =>
  some z66
def fX4_readBranches (E : g_E) (fN : g_E → Nat → Int32 → Int32 → g_G → Option (Int32 × g_G)) (t : Nat) (v1 : Int32) (v2 : Int32) (G : g_G) : Option (g_G) :=
  (gchk G 4 (some t)).bind fun b4 =>
  (fX4_readInto E b4 v1 0 1 G).bind fun z4 =>
  (gchk z4 4 (some t)).bind fun b11 =>
  (fX4_word E b11 (some (gA E 53)) z4).bind fun z11 =>
  (grR z11 4 4 (some t) 30).bind fun x15 =>
  (gchk z11 4 (some t)).bind fun b27 =>
  (fN E b27 (v2 + 1) v1 z11).bind fun z27 =>
  (gsaI E z27.2 x15 (40 + v1) z27.1).bind fun G30 =>
  (gchk G30 4 (some t)).bind fun b35 =>
  (fX4_is E b35 (some (gA E 54)) G30).bind fun z35 =>
  if z35.1 = 0 then (
    fX4_readBranches_b62 E fN t z35.2)
  else (
    (gchk z35.2 4 (some t)).bind fun b42 =>
    (fX4_stepOn E b42 z35.2).bind fun z42 =>
    (grR z42 4 4 (some t) 31).bind fun x46 =>
    (gchk z42 4 (some t)).bind fun b58 =>
    (fN E b58 (v2 + 1) v1 z42).bind fun z58 =>
    (gsaI E z58.2 x46 (40 + v1) z58.1).bind fun G61 =>
    fX4_readBranches_b62 E fN t G61)
def fX4_readStep_b475 (E : g_E) (fN : g_E → Nat → Int32 → Int32 → g_G → Option (Int32 × g_G)) (t : Nat) (G : g_G) : Option (g_G) :=
  (gchk G 4 (some t)).bind fun b478 =>
  (fX4_need E b478 59 G).bind fun z478 =>
  some z478
def fX4_readStep_b336 (E : g_E) (fN : g_E → Nat → Int32 → Int32 → g_G → Option (Int32 × g_G)) (t : Nat) (v3 : Int32) (G : g_G) : Option (g_G) :=
  (gchk G 4 (some t)).bind fun b340 =>
  (fX4_word E b340 (some (gA E 48)) G).bind fun z340 =>
  (gchk z340 4 (some t)).bind fun b347 =>
  (fX4_readInto E b347 v3 1 0 z340).bind fun z347 =>
  (gchk z347 4 (some t)).bind fun b354 =>
  (fX4_word E b354 (some (gA E 51)) z347).bind fun z354 =>
  (grR z354 4 4 (some t) 27).bind fun x358 =>
  (gchk z354 4 (some t)).bind fun b366 =>
  (fX4_readVar E b366 z354).bind fun z366 =>
  (gsaI E z366.2 x358 (40 + v3) z366.1).bind fun G369 =>
  (gchk G369 4 (some t)).bind fun b374 =>
  (fX4_is E b374 (some (gA E 52)) G369).bind fun z374 =>
  if z374.1 = 0 then (
    fX4_readStep_b475 E fN t z374.2)
  else (
    (gchk z374.2 4 (some t)).bind fun b381 =>
    (fX4_stepOn E b381 z374.2).bind fun z381 =>
    (grR z381 4 4 (some t) 28).bind fun x385 =>
    (gchk z381 4 (some t)).bind fun b396 =>
    (fX4_readNumber E b396 1 99 z381).bind fun z396 =>
    (gsaI E z396.2 x385 (40 + v3) z396.1).bind fun G399 =>
    fX4_readStep_b475 E fN t G399)
def fX4_readStep_b152 (E : g_E) (fN : g_E → Nat → Int32 → Int32 → g_G → Option (Int32 × g_G)) : Nat → Nat → Int32 → Int32 → Int32 → Int32 → g_G → Option (g_G)
  | 0, _, _, _, _, _, _ => none
  | n + 1, t, v1, v2, v3, v4, G =>
    if (3 : Int32) ≤ v4 then (
      (gchk G 4 (some t)).bind fun b195 =>
      (fX4_stepOn E b195 G).bind fun z195 =>
      if v2 = 0 then (
        (gchk z195 4 (some t)).bind fun b260 =>
        (fX4_readInto E b260 v3 0 0 z195).bind fun z260 =>
        (gchk z260 4 (some t)).bind fun b267 =>
        (fX4_word E b267 (some (gA E 48)) z260).bind fun z267 =>
        (gchk z267 4 (some t)).bind fun b274 =>
        (fX4_readInto E b274 v3 1 0 z267).bind fun z274 =>
        (gchk z274 4 (some t)).bind fun b281 =>
        (fX4_word E b281 (some (gA E 49)) z274).bind fun z281 =>
        (gchk z281 4 (some t)).bind fun b288 =>
        (fX4_readInto E b288 v3 2 0 z281).bind fun z288 =>
        (gchk z288 4 (some t)).bind fun b295 =>
        (fX4_is E b295 (some (gA E 50)) z288).bind fun z295 =>
        if z295.1 = 0 then (
          fX4_readStep_b475 E fN t z295.2)
        else (
          (gchk z295.2 4 (some t)).bind fun b302 =>
          (fX4_stepOn E b302 z295.2).bind fun z302 =>
          (grR z302 4 4 (some t) 28).bind fun x306 =>
          (gchk z302 4 (some t)).bind fun b317 =>
          (fX4_readNumber E b317 1 99 z302).bind fun z317 =>
          (gsaI E z317.2 x306 (40 + v3) z317.1).bind fun G320 =>
          fX4_readStep_b475 E fN t G320))
      else
      if v2 = 1 then (
        (gchk z195 4 (some t)).bind fun b260 =>
        (fX4_readInto E b260 v3 0 0 z195).bind fun z260 =>
        (gchk z260 4 (some t)).bind fun b267 =>
        (fX4_word E b267 (some (gA E 48)) z260).bind fun z267 =>
        (gchk z267 4 (some t)).bind fun b274 =>
        (fX4_readInto E b274 v3 1 0 z267).bind fun z274 =>
        (gchk z274 4 (some t)).bind fun b281 =>
        (fX4_word E b281 (some (gA E 49)) z274).bind fun z281 =>
        (gchk z281 4 (some t)).bind fun b288 =>
        (fX4_readInto E b288 v3 2 0 z281).bind fun z288 =>
        (gchk z288 4 (some t)).bind fun b295 =>
        (fX4_is E b295 (some (gA E 50)) z288).bind fun z295 =>
        if z295.1 = 0 then (
          fX4_readStep_b475 E fN t z295.2)
        else (
          (gchk z295.2 4 (some t)).bind fun b302 =>
          (fX4_stepOn E b302 z295.2).bind fun z302 =>
          (grR z302 4 4 (some t) 28).bind fun x306 =>
          (gchk z302 4 (some t)).bind fun b317 =>
          (fX4_readNumber E b317 1 99 z302).bind fun z317 =>
          (gsaI E z317.2 x306 (40 + v3) z317.1).bind fun G320 =>
          fX4_readStep_b475 E fN t G320))
      else
      if v2 = 2 then (
        (gchk z195 4 (some t)).bind fun b260 =>
        (fX4_readInto E b260 v3 0 0 z195).bind fun z260 =>
        (gchk z260 4 (some t)).bind fun b267 =>
        (fX4_word E b267 (some (gA E 48)) z260).bind fun z267 =>
        (gchk z267 4 (some t)).bind fun b274 =>
        (fX4_readInto E b274 v3 1 0 z267).bind fun z274 =>
        (gchk z274 4 (some t)).bind fun b281 =>
        (fX4_word E b281 (some (gA E 49)) z274).bind fun z281 =>
        (gchk z281 4 (some t)).bind fun b288 =>
        (fX4_readInto E b288 v3 2 0 z281).bind fun z288 =>
        (gchk z288 4 (some t)).bind fun b295 =>
        (fX4_is E b295 (some (gA E 50)) z288).bind fun z295 =>
        if z295.1 = 0 then (
          fX4_readStep_b475 E fN t z295.2)
        else (
          (gchk z295.2 4 (some t)).bind fun b302 =>
          (fX4_stepOn E b302 z295.2).bind fun z302 =>
          (grR z302 4 4 (some t) 28).bind fun x306 =>
          (gchk z302 4 (some t)).bind fun b317 =>
          (fX4_readNumber E b317 1 99 z302).bind fun z317 =>
          (gsaI E z317.2 x306 (40 + v3) z317.1).bind fun G320 =>
          fX4_readStep_b475 E fN t G320))
      else
      if v2 = 3 then (
        if ¬ v2 = (3 : Int32) then (
          fX4_readStep_b336 E fN t v3 z195)
        else (
          (gchk z195 4 (some t)).bind fun b333 =>
          (fX4_readInto E b333 v3 0 0 z195).bind fun z333 =>
          fX4_readStep_b336 E fN t v3 z333))
      else
      if v2 = 4 then (
        if ¬ v2 = (3 : Int32) then (
          fX4_readStep_b336 E fN t v3 z195)
        else (
          (gchk z195 4 (some t)).bind fun b333 =>
          (fX4_readInto E b333 v3 0 0 z195).bind fun z333 =>
          fX4_readStep_b336 E fN t v3 z333))
      else
      if v2 = 7 then (
        (gchk z195 4 (some t)).bind fun b407 =>
        (fX4_readInto E b407 v3 0 0 z195).bind fun z407 =>
        (gchk z407 4 (some t)).bind fun b414 =>
        (fX4_word E b414 (some (gA E 51)) z407).bind fun z414 =>
        (grR z414 4 4 (some t) 27).bind fun x418 =>
        (gchk z414 4 (some t)).bind fun b426 =>
        (fX4_readVar E b426 z414).bind fun z426 =>
        (gsaI E z426.2 x418 (40 + v3) z426.1).bind fun G429 =>
        fX4_readStep_b475 E fN t G429)
      else
      if v2 = 8 then (
        (grR z195 4 4 (some t) 27).bind fun x434 =>
        (gchk z195 4 (some t)).bind fun b442 =>
        (fX4_readVar E b442 z195).bind fun z442 =>
        (gsaI E z442.2 x434 (40 + v3) z442.1).bind fun G445 =>
        (gchk G445 4 (some t)).bind fun b450 =>
        (fX4_readInto E b450 v3 0 1 G445).bind fun z450 =>
        fX4_readStep_b475 E fN t z450)
      else
      if v2 = 9 then (
        (gchk z195 4 (some t)).bind fun b460 =>
        (fX4_readInto E b460 v3 0 1 z195).bind fun z460 =>
        fX4_readStep_b475 E fN t z460)
      else
      if v2 = 10 then (
        (gchk z195 4 (some t)).bind fun b469 =>
        (fX4_readBranches E fN b469 v3 v1 z195).bind fun z469 =>
        fX4_readStep_b475 E fN t z469)
      else
      (
        fX4_readStep_b475 E fN t z195))
    else (
      (grR G 4 4 (some t) 25).bind fun x159 =>
      (gsaI E G x159 ((3 * (40 + v3)) + v4) 0).bind fun G172 =>
      (grR G172 4 4 (some t) 26).bind fun x174 =>
      (gsaI E G172 x174 ((3 * (40 + v3)) + v4) 0).bind fun G187 =>
      fX4_readStep_b152 E fN n t v1 v2 v3 (v4 + 1) G187)
def fX4_readStep_b108 (E : g_E) (fN : g_E → Nat → Int32 → Int32 → g_G → Option (Int32 × g_G)) (t : Nat) (v1 : Int32) (v2 : Int32) (v3 : Int32) (s0 : Option Nat) (s1 : Int32) (s2 : Int32) (G : g_G) : Option (g_G) :=
  (gsaI E G s0 s1 s2).bind fun G108 =>
  (grR G108 4 4 (some t) 27).bind fun x110 =>
  (gsaI E G108 x110 (40 + v3) 0).bind fun G118 =>
  (grR G118 4 4 (some t) 30).bind fun x120 =>
  (gsaI E G118 x120 (40 + v3) (-1)).bind fun G128 =>
  (grR G128 4 4 (some t) 31).bind fun x130 =>
  (gsaI E G128 x130 (40 + v3) (-1)).bind fun G138 =>
  (grR G138 4 4 (some t) 29).bind fun x140 =>
  (gsaI E G138 x140 (40 + v3) (-1)).bind fun G148 =>
  fX4_readStep_b152 E fN gFU t v1 v2 v3 0 G148
def fX4_readStep_b102 (E : g_E) (fN : g_E → Nat → Int32 → Int32 → g_G → Option (Int32 × g_G)) (t : Nat) (v1 : Int32) (v2 : Int32) (v3 : Int32) (s0 : Option Nat) (s1 : Int32) (G : g_G) : Option (g_G) :=
  fX4_readStep_b108 E fN t v1 v2 v3 s0 s1 99 G
def fX4_readStep_b49 (E : g_E) (fN : g_E → Nat → Int32 → Int32 → g_G → Option (Int32 × g_G)) (t : Nat) (v1 : Int32) (v2 : Int32) (G : g_G) : Option (g_G) :=
  (grI G 4 4 (some t) 18).bind fun x50 =>
  if x50 = 0 then (
    (grR G 4 4 (some t) 22).bind fun x58 =>
    (gaI G 100 x58 1).bind fun x62 =>
    (grR G 4 4 (some t) 22).bind fun x65 =>
    (gaI G 100 x65 1).bind fun x70 =>
    (gsaI E G x65 1 (x70 + 1)).bind fun G73 =>
    (grR G73 4 4 (some t) 24).bind fun x75 =>
    (gsaI E G73 x75 (40 + x62) v2).bind fun G83 =>
    (grR G83 4 4 (some t) 28).bind fun x85 =>
    if v2 = (3 : Int32) then (
      fX4_readStep_b102 E fN t v1 v2 x62 x85 (40 + x62) G83)
    else (
      if ¬ v2 = (4 : Int32) then (
        fX4_readStep_b108 E fN t v1 v2 x62 x85 (40 + x62) 1 G83)
      else (
        fX4_readStep_b102 E fN t v1 v2 x62 x85 (40 + x62) G83)))
  else (
    some G)
def fX4_readStep_b44 (E : g_E) (fN : g_E → Nat → Int32 → Int32 → g_G → Option (Int32 × g_G)) (t : Nat) (v1 : Int32) (v2 : Int32) (G : g_G) : Option (g_G) :=
  (gchk G 4 (some t)).bind fun b46 =>
  (fX4_wrong E b46 2 G).bind fun z46 =>
  fX4_readStep_b49 E fN t v1 v2 z46
def fX4_readStep (E : g_E) (fN : g_E → Nat → Int32 → Int32 → g_G → Option (Int32 × g_G)) (t : Nat) (v1 : Int32) (G : g_G) : Option (g_G) :=
  (grR G 4 4 (some t) 0).bind fun x2 =>
  (gchk G 4 (some t)).bind fun b5 =>
  (fX4_which E b5 x2 G).bind fun z5 =>
  if ¬ z5.1 = (-1 : Int32) then (
    (grR z5.2 4 4 (some t) 22).bind fun x23 =>
    (gaI z5.2 100 x23 1).bind fun x27 =>
    if x27 = (40 : Int32) then (
      fX4_readStep_b44 E fN t v1 z5.1 z5.2)
    else (
      if ¬ z5.1 = (10 : Int32) then (
        fX4_readStep_b49 E fN t v1 z5.1 z5.2)
      else (
        if ¬ v1 = (4 : Int32) then (
          fX4_readStep_b49 E fN t v1 z5.1 z5.2)
        else (
          fX4_readStep_b44 E fN t v1 z5.1 z5.2))))
  else (
    (gchk z5.2 4 (some t)).bind fun b16 =>
    (fX4_wrong E b16 1 z5.2).bind fun z16 =>
    fX4_readStep_b49 E fN t v1 z5.1 z16)
def fX4_readSteps_b125 (E : g_E) (fN : g_E → Nat → Int32 → Int32 → g_G → Option (Int32 × g_G)) (v3 : Int32) (s0 : Option Nat) (s1 : Int32) (s2 : Int32) (G : g_G) : Option (Int32 × g_G) :=
  (gsaI E G s0 s1 s2).bind fun G125 =>
  some (v3, G125)
def fX4_readSteps_b97 (E : g_E) (fN : g_E → Nat → Int32 → Int32 → g_G → Option (Int32 × g_G)) (t : Nat) (v2 : Int32) (v3 : Int32) (v4 : Int32) (G : g_G) : Option (Int32 × g_G) :=
  if v4 = (-1 : Int32) then (
    some (v3, G))
  else (
    (grR G 4 4 (some t) 29).bind fun x104 =>
    if ¬ v2 = (-1 : Int32) then (
      fX4_readSteps_b125 E fN v3 x104 (40 + v4) ((-2) - v2) G)
    else (
      fX4_readSteps_b125 E fN v3 x104 (40 + v4) (-1) G))
def fX4_readSteps_b90 (E : g_E) (fN : g_E → Nat → Int32 → Int32 → g_G → Option (Int32 × g_G)) (k5 : Nat → Int32 → Int32 → Int32 → Int32 → g_G → Option (Int32 × g_G)) (t : Nat) (v1 : Int32) (v2 : Int32) (v3 : Int32) (v5 : Int32) (G : g_G) : Option (Int32 × g_G) :=
  k5 t v1 v2 v3 v5 G
def fX4_readSteps_b44 (E : g_E) (fN : g_E → Nat → Int32 → Int32 → g_G → Option (Int32 × g_G)) (k5 : Nat → Int32 → Int32 → Int32 → Int32 → g_G → Option (Int32 × g_G)) (t : Nat) (v1 : Int32) (v2 : Int32) (v3 : Int32) (v4 : Int32) (G : g_G) : Option (Int32 × g_G) :=
  (grR G 4 4 (some t) 22).bind fun x45 =>
  (gaI G 100 x45 1).bind fun x49 =>
  (gchk G 4 (some t)).bind fun b54 =>
  (fX4_readStep E fN b54 v1 G).bind fun z54 =>
  (grI z54 4 4 (some t) 18).bind fun x58 =>
  if x58 = 0 then (
    if ¬ v4 = (-1 : Int32) then (
      (grR z54 4 4 (some t) 29).bind fun x79 =>
      (gsaI E z54 x79 (40 + v4) x49).bind fun G89 =>
      fX4_readSteps_b90 E fN k5 t v1 v2 v3 x49 G89)
    else (
      fX4_readSteps_b90 E fN k5 t v1 v2 x49 x49 z54))
  else (
    some ((-1), z54))
def fX4_readSteps_b5 (E : g_E) (fN : g_E → Nat → Int32 → Int32 → g_G → Option (Int32 × g_G)) : Nat → Nat → Int32 → Int32 → Int32 → Int32 → g_G → Option (Int32 × g_G)
  | 0, _, _, _, _, _, _ => none
  | n + 1, t, v1, v2, v3, v4, G =>
    (grI G 4 4 (some t) 18).bind fun x6 =>
    if ¬ x6 = 0 then (
      fX4_readSteps_b97 E fN t v2 v3 v4 G)
    else (
      (grI G 4 4 (some t) 13).bind fun x13 =>
      if x13 = 0 then (
        fX4_readSteps_b97 E fN t v2 v3 v4 G)
      else (
        if v2 = (-1 : Int32) then (
          fX4_readSteps_b44 E fN (fX4_readSteps_b5 E fN n) t v1 v2 v3 v4 G)
        else (
          (gchk G 4 (some t)).bind fun b28 =>
          (fX4_is E b28 (some (gA E 54)) G).bind fun z28 =>
          if ¬ z28.1 = 0 then (
            fX4_readSteps_b97 E fN t v2 v3 v4 z28.2)
          else (
            (gchk z28.2 4 (some t)).bind fun b38 =>
            (fX4_is E b38 (some (gA E 55)) z28.2).bind fun z38 =>
            if ¬ z38.1 = 0 then (
              fX4_readSteps_b97 E fN t v2 v3 v4 z38.2)
            else (
              fX4_readSteps_b44 E fN (fX4_readSteps_b5 E fN n) t v1 v2 v3 v4 z38.2)))))
def fX4_readSteps (E : g_E) (fN : g_E → Nat → Int32 → Int32 → g_G → Option (Int32 × g_G)) (t : Nat) (v1 : Int32) (v2 : Int32) (G : g_G) : Option (Int32 × g_G) :=
  fX4_readSteps_b5 E fN gFU t v1 v2 (-1) (-1) G
def fR_msteps : Nat → g_E → Nat → Int32 → Int32 → g_G → Option (Int32 × g_G)
  | 0 => fun _ _ _ _ _ => none
  | d + 1 => fun E t v1 v2 G => fX4_readSteps E (fR_msteps d) t v1 v2 G
def fX4_tell_b116 (E : g_E) (t : Nat) (G : g_G) : Option (Int32 × g_G) :=
  (grI G 4 4 (some t) 52).bind fun x117 =>
  if ¬ x117 = 0 then (
    if (0 : Int32) = 0 ∨ (0 : Int32) = 1 then some (0, G) else none)
  else (
    if (1 : Int32) = 0 ∨ (1 : Int32) = 1 then some (1, G) else none)
def fX4_tell_b91 (E : g_E) : Nat → Nat → Int32 → g_G → Option (Int32 × g_G)
  | 0, _, _, _ => none
  | n + 1, t, v1, G =>
    if (320 : Int32) ≤ v1 then (
      fX4_tell_b116 E t G)
    else (
      (grR G 4 4 (some t) 54).bind fun x99 =>
      (grR G 4 4 (some t) 49).bind fun x104 =>
      (gaI G 100 x104 v1).bind fun x108 =>
      (gsaI E G x99 v1 x108).bind fun G109 =>
      fX4_tell_b91 E n t (v1 + 1) G109)
def fX4_tell_b73 (E : g_E) (t : Nat) (G : g_G) : Option (Int32 × g_G) :=
  (grI G 4 4 (some t) 48).bind fun x75 =>
  (gpZ E G 4 4 (some t) 52 x75).bind fun G78 =>
  (grI G78 4 4 (some t) 46).bind fun x83 =>
  (gpI E G78 4 4 (some t) 53 x83).bind fun G86 =>
  fX4_tell_b91 E gFU t 0 G86
def fX4_tell_b67 (E : g_E) (k31 : Nat → Int32 → g_G → Option (Int32 × g_G)) (t : Nat) (v1 : Int32) (G : g_G) : Option (Int32 × g_G) :=
  k31 t (v1 + 1) G
def fX4_tell_b31 (E : g_E) : Nat → Nat → Int32 → g_G → Option (Int32 × g_G)
  | 0, _, _, _ => none
  | n + 1, t, v1, G =>
    (grI G 4 4 (some t) 46).bind fun x33 =>
    if x33 ≤ v1 then (
      fX4_tell_b73 E t G)
    else (
      (grI G 4 4 (some t) 48).bind fun x40 =>
      if ¬ x40 = 0 then (
        fX4_tell_b73 E t G)
      else (
        (grR G 4 4 (some t) 45).bind fun x47 =>
        (gaI G 102 x47 v1).bind fun x51 =>
        if ¬ x51 = 0 then (
          (gchk G 4 (some t)).bind fun b60 =>
          (fX4_bring E b60 v1 G).bind fun z60 =>
          (gchk z60 4 (some t)).bind fun b64 =>
          (fX4_showEnding E b64 z60).bind fun z64 =>
          fX4_tell_b67 E (fX4_tell_b31 E n) t v1 z64)
        else (
          fX4_tell_b67 E (fX4_tell_b31 E n) t v1 G)))
def fX4_tell (E : g_E) (t : Nat) (G : g_G) : Option (Int32 × g_G) :=
  (grI G 4 4 (some t) 47).bind fun x1 =>
  (grI G 4 4 (some t) 7).bind fun x5 =>
  if x1 = x5 then (
    fX4_tell_b116 E t G)
  else (
    (grI G 4 4 (some t) 7).bind fun x13 =>
    (gpI E G 4 4 (some t) 47 x13).bind fun G16 =>
    (gchk G16 4 (some t)).bind fun b20 =>
    (fX4_go E b20 G16).bind fun z20 =>
    (gpI E z20.2 4 4 (some t) 51 0).bind fun G26 =>
    fX4_tell_b31 E gFU t 0 G26)
def fX4_text_b17 (E : g_E) (t : Nat) (G : g_G) : Option (Int32 × g_G) :=
  (gchk G 4 (some t)).bind fun b19 =>
  (fX4_fail E b19 1 G).bind fun z19 =>
  some (z19.1, z19.2)
def fX4_text_b272 (E : g_E) : Nat → Nat → Int32 → g_G → Option (Int32 × g_G)
  | 0, _, _, _ => none
  | n + 1, t, v2, G =>
    (grI G 4 4 (some t) 21).bind fun x274 =>
    if x274 ≤ v2 then (
      (grI G 4 4 (some t) 7).bind fun x304 =>
      (gpI E G 4 4 (some t) 7 (x304 + 1)).bind fun G309 =>
      (grI G309 4 4 (some t) 8).bind fun x314 =>
      (gpI E G309 4 4 (some t) 8 (x314 + 1)).bind fun G319 =>
      some (0, G319))
    else (
      (grR G 4 4 (some t) 23).bind fun x281 =>
      (grR G 4 4 (some t) 23).bind fun x286 =>
      (gaI G 100 x286 (1080 + v2)).bind fun x294 =>
      (gsaI E G x281 v2 x294).bind fun G295 =>
      fX4_text_b272 E n t (v2 + 1) G295)
def fX4_text_b207 (E : g_E) (k105 : Nat → Int32 → g_G → Option (Int32 × g_G)) : Nat → Nat → Int32 → Int32 → g_G → Option (Int32 × g_G)
  | 0, _, _, _, _ => none
  | n + 1, t, v2, v3, G =>
    if (3 : Int32) ≤ v3 then (
      k105 t (v2 + 1) G)
    else (
      (grR G 4 4 (some t) 25).bind fun x213 =>
      (grR G 4 4 (some t) 25).bind fun x222 =>
      (gaI G 100 x222 ((3 * (40 + v2)) + v3)).bind fun x233 =>
      (gsaI E G x213 ((3 * v2) + v3) x233).bind fun G234 =>
      (grR G234 4 4 (some t) 26).bind fun x236 =>
      (grR G234 4 4 (some t) 26).bind fun x245 =>
      (gaI G234 100 x245 ((3 * (40 + v2)) + v3)).bind fun x256 =>
      (gsaI E G234 x236 ((3 * v2) + v3) x256).bind fun G257 =>
      fX4_text_b207 E k105 n t v2 (v3 + 1) G257)
def fX4_text_b105 (E : g_E) : Nat → Nat → Int32 → g_G → Option (Int32 × g_G)
  | 0, _, _, _ => none
  | n + 1, t, v2, G =>
    (grR G 4 4 (some t) 22).bind fun x107 =>
    (gaI G 100 x107 0).bind fun x111 =>
    if x111 ≤ v2 then (
      fX4_text_b272 E gFU t 0 G)
    else (
      (grR G 4 4 (some t) 24).bind fun x116 =>
      (grR G 4 4 (some t) 24).bind fun x121 =>
      (gaI G 100 x121 (40 + v2)).bind fun x128 =>
      (gsaI E G x116 v2 x128).bind fun G129 =>
      (grR G129 4 4 (some t) 27).bind fun x131 =>
      (grR G129 4 4 (some t) 27).bind fun x136 =>
      (gaI G129 100 x136 (40 + v2)).bind fun x143 =>
      (gsaI E G129 x131 v2 x143).bind fun G144 =>
      (grR G144 4 4 (some t) 28).bind fun x146 =>
      (grR G144 4 4 (some t) 28).bind fun x151 =>
      (gaI G144 100 x151 (40 + v2)).bind fun x158 =>
      (gsaI E G144 x146 v2 x158).bind fun G159 =>
      (grR G159 4 4 (some t) 29).bind fun x161 =>
      (grR G159 4 4 (some t) 29).bind fun x166 =>
      (gaI G159 100 x166 (40 + v2)).bind fun x173 =>
      (gsaI E G159 x161 v2 x173).bind fun G174 =>
      (grR G174 4 4 (some t) 30).bind fun x176 =>
      (grR G174 4 4 (some t) 30).bind fun x181 =>
      (gaI G174 100 x181 (40 + v2)).bind fun x188 =>
      (gsaI E G174 x176 v2 x188).bind fun G189 =>
      (grR G189 4 4 (some t) 31).bind fun x191 =>
      (grR G189 4 4 (some t) 31).bind fun x196 =>
      (gaI G189 100 x196 (40 + v2)).bind fun x203 =>
      (gsaI E G189 x191 v2 x203).bind fun G204 =>
      fX4_text_b207 E (fX4_text_b105 E n) gFU t v2 0 G204)
def fX4_text (E : g_E) (t : Nat) (v1 : Int32) (G : g_G) : Option (Int32 × g_G) :=
  (gpI E G 4 4 (some t) 2 0).bind fun G2 =>
  if v1 < 0 then (
    fX4_text_b17 E t G2)
  else (
    (grI G2 4 4 (some t) 10).bind fun x11 =>
    if v1 ≤ x11 then (
      (gpI E G2 4 4 (some t) 10 0).bind fun G25 =>
      (gpI E G25 4 4 (some t) 12 v1).bind fun G30 =>
      (gpI E G30 4 4 (some t) 11 0).bind fun G35 =>
      (gpI E G35 4 4 (some t) 18 0).bind fun G40 =>
      (gpI E G40 4 4 (some t) 20 (-1)).bind fun G45 =>
      (gpI E G45 4 4 (some t) 21 0).bind fun G50 =>
      (grR G50 4 4 (some t) 22).bind fun x54 =>
      (gsaI E G50 x54 1 0).bind fun G59 =>
      (gchk G59 4 (some t)).bind fun b61 =>
      (fX4_stepOn E b61 G59).bind fun z61 =>
      (gchk z61 4 (some t)).bind fun b67 =>
      (fR_msteps 7 E b67 0 (-1) z61).bind fun z67 =>
      (grI z67.2 4 4 (some t) 18).bind fun x72 =>
      if x72 = 0 then (
        (grR z67.2 4 4 (some t) 22).bind fun x92 =>
        (grR z67.2 4 4 (some t) 22).bind fun x97 =>
        (gaI z67.2 100 x97 1).bind fun x101 =>
        (gsaI E z67.2 x92 0 x101).bind fun G102 =>
        fX4_text_b105 E gFU t 0 G102)
      else (
        (grI z67.2 4 4 (some t) 19).bind fun x80 =>
        (gpI E z67.2 4 4 (some t) 20 x80).bind fun G83 =>
        (grI G83 4 4 (some t) 18).bind fun x87 =>
        some (x87, G83)))
    else (
      fX4_text_b17 E t G2))
def fX5_product_b40 (E : g_E) (fE : g_E → Nat → g_G → Option ((Option Nat × g_G) ⊕ gX)) (k7 : Nat → (Option Nat) → (Option Nat) → g_G → Option ((Option Nat × g_G) ⊕ gX)) (t : Nat) (v1 : Option Nat) (v2 : Option Nat) (G : g_G) : Option ((Option Nat × g_G) ⊕ gX) :=
  (grR G 5 5 (some t) 9).bind fun x41 =>
  (gchk G 19 x41).bind fun b45 =>
  (fJ9_charAt E b45 0 G).bind fun z45 =>
  (gchk z45.2 5 (some t)).bind fun b50 =>
  (fX5_go E b50 z45.2).bind fun z50 =>
  (gchk z50 5 (some t)).bind fun b56 =>
  gcat (fX5_part E fE b56 z50) (fun z56 =>
    (gchk z56.2 9 v2).bind fun b59 =>
    (fX11_add E b59 z45.1 z56.1 z56.2).bind fun z59 =>
    k7 t v1 v2 z59)
  (fun y => some (.inr y))
def fX5_product_b27 (E : g_E) (fE : g_E → Nat → g_G → Option ((Option Nat × g_G) ⊕ gX)) (k7 : Nat → (Option Nat) → (Option Nat) → g_G → Option ((Option Nat × g_G) ⊕ gX)) (t : Nat) (v1 : Option Nat) (v2 : Option Nat) (G : g_G) : Option ((Option Nat × g_G) ⊕ gX) :=
  if ¬ v2 = none then (
    fX5_product_b40 E fE k7 t v1 v2 G)
  else (
    (gnewO E G 9 2).bind fun z31 =>
    (fX11_init E z31.1 v1 z31.2).bind fun z36 =>
    fX5_product_b40 E fE k7 t v1 (some z31.1) z36)
def fX5_product_b7 (E : g_E) (fE : g_E → Nat → g_G → Option ((Option Nat × g_G) ⊕ gX)) : Nat → Nat → (Option Nat) → (Option Nat) → g_G → Option ((Option Nat × g_G) ⊕ gX)
  | 0, _, _, _, _ => none
  | n + 1, t, v1, v2, G =>
    (gchk G 5 (some t)).bind fun b11 =>
    (fX5_is E b11 (some (gA E 44)) G).bind fun z11 =>
    if ¬ z11.1 = 0 then (
      fX5_product_b27 E fE (fX5_product_b7 E fE n) t v1 v2 z11.2)
    else (
      (gchk z11.2 5 (some t)).bind fun b21 =>
      (fX5_is E b21 (some (gA E 45)) z11.2).bind fun z21 =>
      if z21.1 = 0 then (
        if ¬ v2 = none then (
          some (.inl (v2, z21.2)))
        else (
          some (.inl (v1, z21.2))))
      else (
        fX5_product_b27 E fE (fX5_product_b7 E fE n) t v1 v2 z21.2))
def fX5_product (E : g_E) (fE : g_E → Nat → g_G → Option ((Option Nat × g_G) ⊕ gX)) (t : Nat) (G : g_G) : Option ((Option Nat × g_G) ⊕ gX) :=
  (gchk G 5 (some t)).bind fun b1 =>
  gcat (fX5_part E fE b1 G) (fun z1 =>
    fX5_product_b7 E fE gFU t z1.1 none z1.2)
  (fun y => some (.inr y))
def fX5_sum_b40 (E : g_E) (fE : g_E → Nat → g_G → Option ((Option Nat × g_G) ⊕ gX)) (k7 : Nat → (Option Nat) → (Option Nat) → g_G → Option ((Option Nat × g_G) ⊕ gX)) (t : Nat) (v1 : Option Nat) (v2 : Option Nat) (G : g_G) : Option ((Option Nat × g_G) ⊕ gX) :=
  (grR G 5 5 (some t) 9).bind fun x41 =>
  (gchk G 19 x41).bind fun b45 =>
  (fJ9_charAt E b45 0 G).bind fun z45 =>
  (gchk z45.2 5 (some t)).bind fun b50 =>
  (fX5_go E b50 z45.2).bind fun z50 =>
  (gchk z50 5 (some t)).bind fun b56 =>
  gcat (fX5_product E fE b56 z50) (fun z56 =>
    (gchk z56.2 9 v2).bind fun b59 =>
    (fX11_add E b59 z45.1 z56.1 z56.2).bind fun z59 =>
    k7 t v1 v2 z59)
  (fun y => some (.inr y))
def fX5_sum_b27 (E : g_E) (fE : g_E → Nat → g_G → Option ((Option Nat × g_G) ⊕ gX)) (k7 : Nat → (Option Nat) → (Option Nat) → g_G → Option ((Option Nat × g_G) ⊕ gX)) (t : Nat) (v1 : Option Nat) (v2 : Option Nat) (G : g_G) : Option ((Option Nat × g_G) ⊕ gX) :=
  if ¬ v2 = none then (
    fX5_sum_b40 E fE k7 t v1 v2 G)
  else (
    (gnewO E G 9 2).bind fun z31 =>
    (fX11_init E z31.1 v1 z31.2).bind fun z36 =>
    fX5_sum_b40 E fE k7 t v1 (some z31.1) z36)
def fX5_sum_b7 (E : g_E) (fE : g_E → Nat → g_G → Option ((Option Nat × g_G) ⊕ gX)) : Nat → Nat → (Option Nat) → (Option Nat) → g_G → Option ((Option Nat × g_G) ⊕ gX)
  | 0, _, _, _, _ => none
  | n + 1, t, v1, v2, G =>
    (gchk G 5 (some t)).bind fun b11 =>
    (fX5_is E b11 (some (gA E 46)) G).bind fun z11 =>
    if ¬ z11.1 = 0 then (
      fX5_sum_b27 E fE (fX5_sum_b7 E fE n) t v1 v2 z11.2)
    else (
      (gchk z11.2 5 (some t)).bind fun b21 =>
      (fX5_is E b21 (some (gA E 47)) z11.2).bind fun z21 =>
      if z21.1 = 0 then (
        if ¬ v2 = none then (
          some (.inl (v2, z21.2)))
        else (
          some (.inl (v1, z21.2))))
      else (
        fX5_sum_b27 E fE (fX5_sum_b7 E fE n) t v1 v2 z21.2))
def fX5_sum (E : g_E) (fE : g_E → Nat → g_G → Option ((Option Nat × g_G) ⊕ gX)) (t : Nat) (G : g_G) : Option ((Option Nat × g_G) ⊕ gX) :=
  (gchk G 5 (some t)).bind fun b1 =>
  gcat (fX5_product E fE b1 G) (fun z1 =>
    fX5_sum_b7 E fE gFU t z1.1 none z1.2)
  (fun y => some (.inr y))
def fX1_move (E : g_E) (t : Nat) (v1 : Option Nat) (v2 : Int32) (v3 : Int32) (v4 : Int32) (G : g_G) : Option (g_G) :=
  (grR G 3 3 v1 3).bind fun x1 =>
  (gaR G 122 x1 v2).bind fun x5 =>
  (grI G 11 16 x5 0).bind fun x10 =>
  if x10 = 0 then (
    (gcast G 15 15 x5).bind fun x57 =>
    (gchk G 1 (some t)).bind fun b62 =>
    (fX1_sends E b62 v1 v2 x57 v4 G).bind fun z62 =>
    some z62)
  else
  if x10 = 1 then (
    (gcast G 15 15 x5).bind fun x57 =>
    (gchk G 1 (some t)).bind fun b62 =>
    (fX1_sends E b62 v1 v2 x57 v4 G).bind fun z62 =>
    some z62)
  else
  if x10 = 2 then (
    (gcast G 15 15 x5).bind fun x57 =>
    (gchk G 1 (some t)).bind fun b62 =>
    (fX1_sends E b62 v1 v2 x57 v4 G).bind fun z62 =>
    some z62)
  else
  if x10 = 3 then (
    (gcast G 16 16 x5).bind fun x73 =>
    (gchk G 16 x73).bind fun b78 =>
    (fX13_of E b78 v1 v2 G).bind fun z78 =>
    (gchk z78.2 1 (some t)).bind fun b81 =>
    (fX1_takes E b81 v1 v2 z78.1 z78.2).bind fun z81 =>
    some z81)
  else
  if x10 = 4 then (
    (gchk G 1 (some t)).bind fun b91 =>
    (fX1_takes E b91 v1 v2 v3 G).bind fun z91 =>
    some z91)
  else
  if x10 = 5 then (
    (grR G 1 1 (some t) 8).bind fun x100 =>
    (gaI G 100 x100 v2).bind fun x104 =>
    (gchk G 1 (some t)).bind fun b105 =>
    (fX1_clocks E b105 v2 x104 G).bind fun z105 =>
    (grR z105 1 1 (some t) 6).bind fun x109 =>
    (gaI z105 100 x109 v2).bind fun x114 =>
    (gsaI E z105 x109 v2 (x114 + 1)).bind fun G117 =>
    (grR G117 11 16 x5 2).bind fun x123 =>
    (gchk G117 1 (some t)).bind fun b126 =>
    (fX1_goes E b126 v1 v2 x123 G117).bind fun z126 =>
    some z126)
  else
  (
    (grI G 11 16 x5 0).bind fun x136 =>
    (gchk G 1 (some t)).bind fun b139 =>
    (fX1_together E b139 v1 x136 G).bind fun z139 =>
    some z139)
def fX1_tries_b50 (E : g_E) : Nat → Nat → (Option Nat) → Int32 → g_G → Option (Int32 × g_G)
  | 0, _, _, _, _ => none
  | n + 1, t, v5, v6, G =>
    (grI G 1 1 (some t) 15).bind fun x53 =>
    if x53 ≤ v6 then (
      (grI G 1 1 (some t) 15).bind fun x84 =>
      (gpI E G 1 1 (some t) 15 (x84 + 1)).bind fun G89 =>
      (grI G89 1 1 (some t) 15).bind fun x93 =>
      if (200 : Int32) < x93 then (
        if (0 : Int32) = 0 ∨ (0 : Int32) = 1 then some (0, G89) else none)
      else (
        if (1 : Int32) = 0 ∨ (1 : Int32) = 1 then some (1, G89) else none))
    else (
      (grR G 1 1 (some t) 12).bind fun x60 =>
      (gaR G 121 x60 v6).bind fun x65 =>
      (gchk G 3 x65).bind fun b68 =>
      (fX3_isLike E b68 v5 G).bind fun z68 =>
      if z68.1 = 0 then (
        fX1_tries_b50 E n t v5 (v6 + 1) z68.2)
      else (
        if (1 : Int32) = 0 ∨ (1 : Int32) = 1 then some (1, z68.2) else none))
def fX1_tries (E : g_E) (t : Nat) (v1 : Int32) (v2 : Int32) (v3 : Int32) (v4 : Int32) (G : g_G) : Option (Int32 × g_G) :=
  (grR G 1 1 (some t) 12).bind fun x1 =>
  (grI G 1 1 (some t) 15).bind fun x5 =>
  (gaR G 121 x1 x5).bind fun x8 =>
  (grR G 1 1 (some t) 12).bind fun x14 =>
  (gaR G 121 x14 v1).bind fun x18 =>
  (gchk G 3 x8).bind fun b19 =>
  (fX3_copy E b19 x18 G).bind fun z19 =>
  (gchk z19 1 (some t)).bind fun b29 =>
  (fX1_notes E b29 x8 v2 v3 v4 z19).bind fun z29 =>
  (gchk z29 1 (some t)).bind fun b39 =>
  (fX1_move E b39 x8 v2 v3 v4 z29).bind fun z39 =>
  (gchk z39 3 x8).bind fun b44 =>
  (fX3_hashes E b44 z39).bind fun z44 =>
  fX1_tries_b50 E gFU t x8 0 z44
def fX4_could_b31 (E : g_E) (t : Nat) (G : g_G) : Option (Int32 × g_G) :=
  (gchk G 4 (some t)).bind fun b33 =>
  (fX4_fail E b33 1 G).bind fun z33 =>
  some (z33.1, z33.2)
def fX4_could (E : g_E) (t : Nat) (v1 : Int32) (v2 : Int32) (G : g_G) : Option (Int32 × g_G) :=
  (gpI E G 4 4 (some t) 2 0).bind fun G2 =>
  (gchk G2 4 (some t)).bind fun b7 =>
  (fX4_isHand E b7 v1 G2).bind fun z7 =>
  if z7.1 = 0 then (
    fX4_could_b31 E t z7.2)
  else (
    (gchk z7.2 4 (some t)).bind fun b15 =>
    (fX4_isStep E b15 v2 z7.2).bind fun z15 =>
    if z15.1 = 0 then (
      fX4_could_b31 E t z15.2)
    else (
      (grR z15.2 4 4 (some t) 24).bind fun x22 =>
      (gaI z15.2 100 x22 v2).bind fun x26 =>
      if x26 = (4 : Int32) then (
        (gchk z15.2 4 (some t)).bind fun b38 =>
        (fX4_tell E b38 z15.2).bind fun z38 =>
        if z38.1 = 0 then (
          some ((-1), z38.2))
        else (
          (grR z38.2 4 4 (some t) 54).bind fun x45 =>
          (gaI z38.2 100 x45 ((40 * v1) + v2)).bind fun x54 =>
          some (x54, z38.2)))
      else (
        fX4_could_b31 E t z15.2)))
def fX4_cut_b132 (E : g_E) (k103 : Nat → Int32 → Int32 → g_G → Option (Int32 × g_G)) (t : Nat) (v1 : Int32) (v2 : Int32) (s0 : Option Nat) (s1 : Int32) (s2 : Int32) (G : g_G) : Option (Int32 × g_G) :=
  (gsaZ E G s0 s1 s2).bind fun G132 =>
  (grR G132 4 4 (some t) 32).bind fun x134 =>
  (gsaZ E G132 x134 v2 0).bind fun G139 =>
  k103 t v1 (v2 + 1) G139
def fX4_cut_b103 (E : g_E) : Nat → Nat → Int32 → Int32 → g_G → Option (Int32 × g_G)
  | 0, _, _, _, _ => none
  | n + 1, t, v1, v2, G =>
    (grR G 4 4 (some t) 22).bind fun x105 =>
    (gaI G 100 x105 0).bind fun x109 =>
    if x109 ≤ v2 then (
      (grI G 4 4 (some t) 8).bind fun x148 =>
      (gpI E G 4 4 (some t) 56 x148).bind fun G151 =>
      some (v1, G151))
    else (
      (grR G 4 4 (some t) 55).bind fun x114 =>
      (grR G 4 4 (some t) 32).bind fun x119 =>
      (gaI G 102 x119 v2).bind fun x123 =>
      if ¬ x123 = 0 then (
        fX4_cut_b132 E (fX4_cut_b103 E n) t v1 v2 x114 v2 0 G)
      else (
        fX4_cut_b132 E (fX4_cut_b103 E n) t v1 v2 x114 v2 1 G))
def fX4_cut_b95 (E : g_E) (k25 : Nat → Int32 → Int32 → g_G → Option (Int32 × g_G)) (t : Nat) (v1 : Int32) (v2 : Int32) (G : g_G) : Option (Int32 × g_G) :=
  k25 t v1 (v2 + 1) G
def fX4_cut_b93 (E : g_E) (k25 : Nat → Int32 → Int32 → g_G → Option (Int32 × g_G)) (t : Nat) (v2 : Int32) (s0 : Int32) (s1 : Int32) (G : g_G) : Option (Int32 × g_G) :=
  fX4_cut_b95 E k25 t (s0 + s1) v2 G
def fX4_cut_b75 (E : g_E) (k25 : Nat → Int32 → Int32 → g_G → Option (Int32 × g_G)) (t : Nat) (v1 : Int32) (v2 : Int32) (s0 : Int32) (G : g_G) : Option (Int32 × g_G) :=
  (grR G 4 4 (some t) 32).bind fun x77 =>
  (gsaZ E G x77 v2 s0).bind fun G82 =>
  if s0 = 0 then (
    fX4_cut_b93 E k25 t v2 v1 1 G82)
  else (
    fX4_cut_b93 E k25 t v2 v1 0 G82)
def fX4_cut_b74 (E : g_E) (k25 : Nat → Int32 → Int32 → g_G → Option (Int32 × g_G)) (t : Nat) (v1 : Int32) (v2 : Int32) (G : g_G) : Option (Int32 × g_G) :=
  fX4_cut_b75 E k25 t v1 v2 0 G
def fX4_cut_b25 (E : g_E) : Nat → Nat → Int32 → Int32 → g_G → Option (Int32 × g_G)
  | 0, _, _, _, _ => none
  | n + 1, t, v1, v2, G =>
    (grR G 4 4 (some t) 22).bind fun x27 =>
    (gaI G 100 x27 0).bind fun x31 =>
    if x31 ≤ v2 then (
      fX4_cut_b103 E gFU t v1 0 G)
    else (
      (grR G 4 4 (some t) 24).bind fun x36 =>
      (gaI G 100 x36 v2).bind fun x40 =>
      if ¬ x40 = (10 : Int32) then (
        (grR G 4 4 (some t) 32).bind fun x50 =>
        (gsaZ E G x50 v2 1).bind fun G55 =>
        (gchk G55 4 (some t)).bind fun b57 =>
        (fX4_go E b57 G55).bind fun z57 =>
        if z57.1 = 0 then (
          fX4_cut_b74 E (fX4_cut_b25 E n) t v1 v2 z57.2)
        else (
          (gchk z57.2 4 (some t)).bind fun b64 =>
          (fX4_someLocks E b64 z57.2).bind fun z64 =>
          if z64.1 = 0 then (
            fX4_cut_b74 E (fX4_cut_b25 E n) t v1 v2 z64.2)
          else (
            fX4_cut_b75 E (fX4_cut_b25 E n) t v1 v2 1 z64.2)))
      else (
        fX4_cut_b95 E (fX4_cut_b25 E n) t v1 v2 G))
def fX4_cut (E : g_E) (t : Nat) (G : g_G) : Option (Int32 × g_G) :=
  (gpI E G 4 4 (some t) 2 0).bind fun G2 =>
  (gchk G2 4 (some t)).bind fun b6 =>
  (fX4_go E b6 G2).bind fun z6 =>
  if z6.1 = 0 then (
    some ((-1), z6.2))
  else (
    (gchk z6.2 4 (some t)).bind fun b13 =>
    (fX4_someLocks E b13 z6.2).bind fun z13 =>
    if ¬ z13.1 = 0 then (
      fX4_cut_b25 E gFU t 0 0 z13.2)
    else (
      some ((-1), z13.2)))
def fX4_differs_b79 (E : g_E) (k16 : Nat → Int32 → g_G → Option (Int32 × g_G)) (t : Nat) (v1 : Int32) (G : g_G) : Option (Int32 × g_G) :=
  k16 t (v1 + 1) G
def fX4_differs_b41 (E : g_E) (k16 : Nat → Int32 → g_G → Option (Int32 × g_G)) : Nat → Nat → Int32 → Int32 → g_G → Option (Int32 × g_G)
  | 0, _, _, _, _ => none
  | n + 1, t, v1, v2, G =>
    if (8 : Int32) ≤ v2 then (
      fX4_differs_b79 E k16 t v1 G)
    else (
      (grR G 4 4 (some t) 50).bind fun x48 =>
      (gaI G 100 x48 (((11 * v1) + 1) + v2)).bind fun x59 =>
      (grR G 4 4 (some t) 50).bind fun x61 =>
      (gaI G 100 x61 (1 + v2)).bind fun x67 =>
      if x59 = x67 then (
        fX4_differs_b41 E k16 n t v1 (v2 + 1) G)
      else (
        if (1 : Int32) = 0 ∨ (1 : Int32) = 1 then some (1, G) else none))
def fX4_differs_b16 (E : g_E) : Nat → Nat → Int32 → g_G → Option (Int32 × g_G)
  | 0, _, _, _ => none
  | n + 1, t, v1, G =>
    (grI G 4 4 (some t) 51).bind fun x18 =>
    if x18 ≤ v1 then (
      if (0 : Int32) = 0 ∨ (0 : Int32) = 1 then some (0, G) else none)
    else (
      (grR G 4 4 (some t) 50).bind fun x25 =>
      (gaI G 100 x25 (11 * v1)).bind fun x32 =>
      if x32 = 0 then (
        fX4_differs_b41 E (fX4_differs_b16 E n) gFU t v1 0 G)
      else (
        fX4_differs_b79 E (fX4_differs_b16 E n) t v1 G))
def fX4_differs (E : g_E) (t : Nat) (G : g_G) : Option (Int32 × g_G) :=
  (gpI E G 4 4 (some t) 2 0).bind fun G2 =>
  (gchk G2 4 (some t)).bind fun b6 =>
  (fX4_tell E b6 G2).bind fun z6 =>
  if ¬ z6.1 = 0 then (
    fX4_differs_b16 E gFU t 1 z6.2)
  else (
    if (0 : Int32) = 0 ∨ (0 : Int32) = 1 then some (0, z6.2) else none)
def fX4_ending_b59 (E : g_E) (t : Nat) (G : g_G) : Option (Int32 × g_G) :=
  (gchk G 4 (some t)).bind fun b61 =>
  (fX4_fail E b61 1 G).bind fun z61 =>
  some (z61.1, z61.2)
def fX4_ending_b33 (E : g_E) (t : Nat) (v1 : Int32) (v2 : Int32) (s0 : Int32) (G : g_G) : Option (Int32 × g_G) :=
  (gchk G 4 (some t)).bind fun b35 =>
  (fX4_tell E b35 G).bind fun z35 =>
  if z35.1 = 0 then (
    fX4_ending_b59 E t z35.2)
  else (
    (grI z35.2 4 4 (some t) 51).bind fun x44 =>
    (fX4_isIn E v1 0 (x44 - 1) z35.2).bind fun z49 =>
    if z49.1 = 0 then (
      fX4_ending_b59 E t z49.2)
    else (
      if ¬ s0 = 0 then (
        if ¬ v2 = 0 then (
          if ¬ v2 = (1 : Int32) then (
            if ¬ v2 = (2 : Int32) then (
              (grR z49.2 4 4 (some t) 50).bind fun x122 =>
              (gaI z49.2 100 x122 (((11 * v1) + v2) - 3)).bind fun x131 =>
              some (x131, z49.2))
            else (
              (grR z49.2 4 4 (some t) 50).bind fun x109 =>
              (gaI z49.2 100 x109 ((11 * v1) + 10)).bind fun x117 =>
              some (x117, z49.2)))
          else (
            (grR z49.2 4 4 (some t) 50).bind fun x91 =>
            (gaI z49.2 100 x91 ((11 * v1) + 9)).bind fun x99 =>
            some (x99, z49.2)))
        else (
          (grR z49.2 4 4 (some t) 50).bind fun x76 =>
          (gaI z49.2 100 x76 (11 * v1)).bind fun x81 =>
          some (x81, z49.2)))
      else (
        fX4_ending_b59 E t z49.2)))
def fX4_ending_b28 (E : g_E) (t : Nat) (v1 : Int32) (v2 : Int32) (G : g_G) : Option (Int32 × g_G) :=
  fX4_ending_b33 E t v1 v2 1 G
def fX4_ending (E : g_E) (t : Nat) (v1 : Int32) (v2 : Int32) (G : g_G) : Option (Int32 × g_G) :=
  (gpI E G 4 4 (some t) 2 0).bind fun G2 =>
  (fX4_isIn E v2 0 2 G2).bind fun z8 =>
  if ¬ z8.1 = 0 then (
    fX4_ending_b28 E t v1 v2 z8.2)
  else (
    (grI z8.2 4 4 (some t) 3).bind fun x18 =>
    (fX4_isIn E v2 4 (3 + x18) z8.2).bind fun z22 =>
    if z22.1 = 0 then (
      fX4_ending_b33 E t v1 v2 0 z22.2)
    else (
      fX4_ending_b28 E t v1 v2 z22.2))
def fX4_endings_b66 (E : g_E) (k34 : Nat → Int32 → Int32 → Int32 → g_G → Option (Int32 × g_G)) (t : Nat) (v1 : Int32) (v3 : Int32) (s0 : Int32) (s1 : Int32) (G : g_G) : Option (Int32 × g_G) :=
  k34 t v1 (s0 + s1) (v3 + 1) G
def fX4_endings_b61 (E : g_E) (k34 : Nat → Int32 → Int32 → Int32 → g_G → Option (Int32 × g_G)) (t : Nat) (v1 : Int32) (v3 : Int32) (s0 : Int32) (G : g_G) : Option (Int32 × g_G) :=
  fX4_endings_b66 E k34 t v1 v3 s0 1 G
def fX4_endings_b34 (E : g_E) : Nat → Nat → Int32 → Int32 → Int32 → g_G → Option (Int32 × g_G)
  | 0, _, _, _, _, _ => none
  | n + 1, t, v1, v2, v3, G =>
    (grI G 4 4 (some t) 51).bind fun x36 =>
    if x36 ≤ v3 then (
      some (v2, G))
    else (
      if v1 = (-1 : Int32) then (
        fX4_endings_b61 E (fX4_endings_b34 E n) t v1 v3 v2 G)
      else (
        (grR G 4 4 (some t) 50).bind fun x49 =>
        (gaI G 100 x49 (11 * v3)).bind fun x56 =>
        if ¬ x56 = v1 then (
          fX4_endings_b66 E (fX4_endings_b34 E n) t v1 v3 v2 0 G)
        else (
          fX4_endings_b61 E (fX4_endings_b34 E n) t v1 v3 v2 G)))
def fX4_endings (E : g_E) (t : Nat) (v1 : Int32) (G : g_G) : Option (Int32 × g_G) :=
  (gpI E G 4 4 (some t) 2 0).bind fun G2 =>
  (fX4_isIn E v1 (-1) 2 G2).bind fun z8 =>
  if ¬ z8.1 = 0 then (
    (gchk z8.2 4 (some t)).bind fun b21 =>
    (fX4_tell E b21 z8.2).bind fun z21 =>
    if ¬ z21.1 = 0 then (
      fX4_endings_b34 E gFU t v1 0 0 z21.2)
    else (
      some ((-2), z21.2)))
  else (
    (gchk z8.2 4 (some t)).bind fun b16 =>
    (fX4_fail E b16 1 z8.2).bind fun z16 =>
    some (z16.1, z16.2))
def fX4_reached (E : g_E) (t : Nat) (G : g_G) : Option (Int32 × g_G) :=
  (gpI E G 4 4 (some t) 2 0).bind fun G2 =>
  (gchk G2 4 (some t)).bind fun b6 =>
  (fX4_tell E b6 G2).bind fun z6 =>
  if z6.1 = 0 then (
    some ((-1), z6.2))
  else (
    (grI z6.2 4 4 (some t) 53).bind fun x13 =>
    some (x13, z6.2))
def fX5_expr_b27 (E : g_E) (fE : g_E → Nat → g_G → Option ((Option Nat × g_G) ⊕ gX)) (t : Nat) (v1 : Option Nat) (G : g_G) : Option ((Option Nat × g_G) ⊕ gX) :=
  (gnewO E G 9 2).bind fun z27 =>
  (fX11_init E z27.1 v1 z27.2).bind fun z32 =>
  (grR z32 5 5 (some t) 9).bind fun x37 =>
  (gchk z32 19 x37).bind fun b41 =>
  (fJ9_charAt E b41 0 z32).bind fun z41 =>
  (gchk z41.2 5 (some t)).bind fun b46 =>
  (fX5_go E b46 z41.2).bind fun z46 =>
  (gchk z46 5 (some t)).bind fun b52 =>
  gcat (fX5_sum E fE b52 z46) (fun z52 =>
    (gchk z52.2 9 (some z27.1)).bind fun b55 =>
    (fX11_add E b55 z41.1 z52.1 z52.2).bind fun z55 =>
    some (.inl ((some z27.1), z55)))
  (fun y => some (.inr y))
def fX5_expr (E : g_E) (fE : g_E → Nat → g_G → Option ((Option Nat × g_G) ⊕ gX)) (t : Nat) (G : g_G) : Option ((Option Nat × g_G) ⊕ gX) :=
  (gchk G 5 (some t)).bind fun b1 =>
  gcat (fX5_sum E fE b1 G) (fun z1 =>
    (gchk z1.2 5 (some t)).bind fun b9 =>
    (fX5_is E b9 (some (gA E 34)) z1.2).bind fun z9 =>
    if ¬ z9.1 = 0 then (
      fX5_expr_b27 E fE t z1.1 z9.2)
    else (
      (gchk z9.2 5 (some t)).bind fun b19 =>
      (fX5_is E b19 (some (gA E 35)) z9.2).bind fun z19 =>
      if ¬ z19.1 = 0 then (
        fX5_expr_b27 E fE t z1.1 z19.2)
      else (
        some (.inl (z1.1, z19.2)))))
  (fun y => some (.inr y))
def fR_expr : Nat → g_E → Nat → g_G → Option ((Option Nat × g_G) ⊕ gX)
  | 0 => fun _ _ _ => none
  | d + 1 => fun E t G => fX5_expr E (fR_expr d) t G
def fX5_plain (E : g_E) (t : Nat) (v1 : Option Nat) (G : g_G) : Option ((Option Nat × g_G) ⊕ gX) :=
  (grR G 5 5 (some t) 10).bind fun x1 =>
  (grR G 2 2 x1 0).bind fun x4 =>
  (gchk G 17 x4).bind fun b8 =>
  (fJ2_add_2 E b8 v1 G).bind fun z8 =>
  (grI z8.2 11 11 v1 0).bind fun x13 =>
  if x13 = (7 : Int32) then (
    (gchk z8.2 5 (some t)).bind fun b25 =>
    gcat (fX5_sum E (fR_expr 10) b25 z8.2) (fun z25 =>
      (gpR E z25.2 11 11 v1 3 z25.1).bind fun G28 =>
      (gchk G28 5 (some t)).bind fun b35 =>
      gcat (fX5_need E b35 (some (gA E 51)) G28) (fun z35 =>
        (gchk z35 5 (some t)).bind fun b40 =>
        gcat (fX5_var E b40 z35) (fun z40 =>
          (gpI E z40.2 11 11 v1 4 z40.1).bind fun G43 =>
          some (.inl (v1, G43)))
        (fun y => some (.inr y)))
      (fun y => some (.inr y)))
    (fun y => some (.inr y)))
  else (
    some (.inl (v1, z8.2)))
def fX5_send (E : g_E) (t : Nat) (v1 : Option Nat) (G : g_G) : Option ((Option Nat × g_G) ⊕ gX) :=
  (grR G 5 5 (some t) 10).bind fun x1 =>
  (grR G 2 2 x1 0).bind fun x4 =>
  (gchk G 17 x4).bind fun b8 =>
  (fJ2_add_2 E b8 v1 G).bind fun z8 =>
  (gchk z8.2 5 (some t)).bind fun b14 =>
  gcat (fX5_sum E (fR_expr 10) b14 z8.2) (fun z14 =>
    (gpR E z14.2 15 15 v1 4 z14.1).bind fun G17 =>
    (gchk G17 5 (some t)).bind fun b24 =>
    gcat (fX5_need E b24 (some (gA E 48)) G17) (fun z24 =>
      (gchk z24 5 (some t)).bind fun b29 =>
      gcat (fX5_sum E (fR_expr 10) b29 z24) (fun z29 =>
        (gpR E z29.2 15 15 v1 3 z29.1).bind fun G32 =>
        (gchk G32 5 (some t)).bind fun b39 =>
        gcat (fX5_need E b39 (some (gA E 49)) G32) (fun z39 =>
          (gchk z39 5 (some t)).bind fun b44 =>
          gcat (fX5_sum E (fR_expr 10) b44 z39) (fun z44 =>
            (gpR E z44.2 15 15 v1 5 z44.1).bind fun G47 =>
            (gchk G47 5 (some t)).bind fun b54 =>
            (fX5_is E b54 (some (gA E 50)) G47).bind fun z54 =>
            if z54.1 = 0 then (
              some (.inl (v1, z54.2)))
            else (
              (gchk z54.2 5 (some t)).bind fun b61 =>
              (fX5_go E b61 z54.2).bind fun z61 =>
              (gchk z61 5 (some t)).bind fun b69 =>
              gcat (fX5_number E b69 1 99 z61) (fun z69 =>
                (gpI E z69.2 15 15 v1 6 z69.1).bind fun G72 =>
                some (.inl (v1, G72)))
              (fun y => some (.inr y))))
          (fun y => some (.inr y)))
        (fun y => some (.inr y)))
      (fun y => some (.inr y)))
    (fun y => some (.inr y)))
  (fun y => some (.inr y))
def fX5_wait_b44 (E : g_E) (t : Nat) (v1 : Option Nat) (G : g_G) : Option ((Option Nat × g_G) ⊕ gX) :=
  (gchk G 5 (some t)).bind fun b48 =>
  gcat (fX5_need E b48 (some (gA E 48)) G) (fun z48 =>
    (gchk z48 5 (some t)).bind fun b53 =>
    gcat (fX5_sum E (fR_expr 10) b53 z48) (fun z53 =>
      (gpR E z53.2 16 16 v1 3 z53.1).bind fun G56 =>
      (gchk G56 5 (some t)).bind fun b63 =>
      gcat (fX5_need E b63 (some (gA E 51)) G56) (fun z63 =>
        (gchk z63 5 (some t)).bind fun b68 =>
        gcat (fX5_var E b68 z63) (fun z68 =>
          (gpI E z68.2 16 16 v1 5 z68.1).bind fun G71 =>
          (gchk G71 5 (some t)).bind fun b78 =>
          (fX5_is E b78 (some (gA E 52)) G71).bind fun z78 =>
          if z78.1 = 0 then (
            some (.inl (v1, z78.2)))
          else (
            (gchk z78.2 5 (some t)).bind fun b85 =>
            (fX5_go E b85 z78.2).bind fun z85 =>
            (gchk z85 5 (some t)).bind fun b93 =>
            gcat (fX5_number E b93 1 99 z85) (fun z93 =>
              (gpI E z93.2 16 16 v1 6 z93.1).bind fun G96 =>
              some (.inl (v1, G96)))
            (fun y => some (.inr y))))
        (fun y => some (.inr y)))
      (fun y => some (.inr y)))
    (fun y => some (.inr y)))
  (fun y => some (.inr y))
def fX5_wait (E : g_E) (t : Nat) (v1 : Option Nat) (G : g_G) : Option ((Option Nat × g_G) ⊕ gX) :=
  (grR G 5 5 (some t) 10).bind fun x1 =>
  (grR G 2 2 x1 0).bind fun x4 =>
  (gchk G 17 x4).bind fun b8 =>
  (fJ2_add_2 E b8 v1 G).bind fun z8 =>
  (grI z8.2 16 16 v1 0).bind fun x13 =>
  if ¬ x13 = (3 : Int32) then (
    (grR z8.2 5 5 (some t) 10).bind fun x32 =>
    (grI z8.2 2 2 x32 2).bind fun x36 =>
    (gpI E z8.2 2 2 x32 2 (x36 + 1)).bind fun G41 =>
    fX5_wait_b44 E t v1 G41)
  else (
    (gchk z8.2 5 (some t)).bind fun b22 =>
    gcat (fX5_sum E (fR_expr 10) b22 z8.2) (fun z22 =>
      (gpR E z22.2 16 16 v1 4 z22.1).bind fun G25 =>
      fX5_wait_b44 E t v1 G25)
    (fun y => some (.inr y)))
def fX1_goesOn_b146 (E : g_E) (t : Nat) (v1 : Option Nat) (v2 : Int32) (v3 : Int32) (v6 : Int32) (v7 : Int32) (G : g_G) : Option (Int32 × g_G) :=
  (gchk G 1 (some t)).bind fun b152 =>
  (fX1_move E b152 v1 v2 v6 v3 G).bind fun z152 =>
  if v7 = (-1 : Int32) then (
    if (1 : Int32) = 0 ∨ (1 : Int32) = 1 then some (1, z152) else none)
  else (
    (grR z152 1 1 (some t) 22).bind fun x162 =>
    (grI z152 1 1 (some t) 25).bind fun x166 =>
    (gsaI E z152 x162 x166 v7).bind fun G171 =>
    (grI G171 1 1 (some t) 25).bind fun x174 =>
    (gpI E G171 1 1 (some t) 25 (x174 + 1)).bind fun G179 =>
    if (1 : Int32) = 0 ∨ (1 : Int32) = 1 then some (1, G179) else none)
def fX1_goesOn_b76 (E : g_E) (t : Nat) (v1 : Option Nat) (v2 : Int32) (v3 : Int32) (v6 : Int32) (G : g_G) : Option (Int32 × g_G) :=
  fX1_goesOn_b146 E t v1 v2 v3 v6 v6 G
def fX1_goesOn_b63 (E : g_E) (t : Nat) (v1 : Option Nat) (v2 : Int32) (v3 : Int32) (v4 : Int32) (v6 : Int32) (G : g_G) : Option (Int32 × g_G) :=
  if ¬ v6 = (-1 : Int32) then (
    fX1_goesOn_b76 E t v1 v2 v3 v6 G)
  else (
    (fJ16_numberOfTrailingZeros E v4 G).bind fun z71 =>
    fX1_goesOn_b76 E t v1 v2 v3 z71.1 z71.2)
def fX1_goesOn_b143 (E : g_E) (t : Nat) (v1 : Option Nat) (v2 : Int32) (v3 : Int32) (v6 : Int32) (G : g_G) : Option (Int32 × g_G) :=
  fX1_goesOn_b146 E t v1 v2 v3 v6 v2 G
def fX1_goesOn (E : g_E) (t : Nat) (v1 : Option Nat) (v2 : Int32) (v3 : Int32) (G : g_G) : Option (Int32 × g_G) :=
  (gchk G 1 (some t)).bind fun b4 =>
  (fX1_moves E b4 v1 v2 v3 G).bind fun z4 =>
  if ¬ z4.1 = 0 then (
    (grR z4.2 3 3 v1 3).bind fun x17 =>
    (gaR z4.2 122 x17 v2).bind fun x21 =>
    (grI z4.2 11 16 x21 0).bind fun x22 =>
    if ¬ x22 = (4 : Int32) then (
      if (2 : Int32) < x22 then (
        fX1_goesOn_b146 E t v1 v2 v3 v2 (-1) z4.2)
      else (
        (gchk z4.2 1 (some t)).bind fun b93 =>
        (fX1_mayLie E b93 v1 v2 v3 z4.2).bind fun z93 =>
        if ¬ z93.1 = 0 then (
          fX1_goesOn_b146 E t v1 v2 v3 v2 (-1) z93.2)
        else (
          (grR z93.2 3 3 v1 3).bind fun x100 =>
          (grR z93.2 3 3 v1 3).bind fun x104 =>
          (gaR z93.2 122 x104 v2).bind fun x108 =>
          (gcast z93.2 15 15 x108).bind fun x109 =>
          (gchk z93.2 15 x109).bind fun b114 =>
          (fX9_to E b114 v1 v2 z93.2).bind fun z114 =>
          (gaR z114.2 122 x100 z114.1).bind fun x117 =>
          (grI z114.2 11 16 x117 0).bind fun x118 =>
          if ¬ x118 = (4 : Int32) then (
            fX1_goesOn_b146 E t v1 v2 v3 v2 (-1) z114.2)
          else (
            (gchk z114.2 1 (some t)).bind fun b126 =>
            (fX1_nextChoice E b126 z114.2).bind fun z126 =>
            if z126.1 = (-1 : Int32) then (
              fX1_goesOn_b143 E t v1 v2 v3 v2 z126.2)
            else (
              (gchk z126.2 1 (some t)).bind fun b134 =>
              (fX1_nextChoice E b134 z126.2).bind fun z134 =>
              if z134.1 = v2 then (
                fX1_goesOn_b143 E t v1 v2 v3 v2 z134.2)
              else (
                if (0 : Int32) = 0 ∨ (0 : Int32) = 1 then some (0, z134.2) else none))))))
    else (
      (gchk z4.2 1 (some t)).bind fun b40 =>
      (fX1_nextChoice E b40 z4.2).bind fun z40 =>
      if z40.1 = (-1 : Int32) then (
        fX1_goesOn_b63 E t v1 v2 v3 z4.1 z40.1 z40.2)
      else (
        if ¬ ((z4.1 >>> (z40.1 &&& 31)) &&& 1) = 0 then (
          fX1_goesOn_b63 E t v1 v2 v3 z4.1 z40.1 z40.2)
        else (
          if (0 : Int32) = 0 ∨ (0 : Int32) = 1 then some (0, z40.2) else none))))
  else (
    if (0 : Int32) = 0 ∨ (0 : Int32) = 1 then some (0, z4.2) else none)
def fX1_goesThrough_b164 (E : g_E) (k59 : Nat → Int32 → Int32 → g_G → Option (Int32 × g_G)) (t : Nat) (v1 : Int32) (v2 : Int32) (G : g_G) : Option (Int32 × g_G) :=
  k59 t v1 (v2 + 1) G
def fX1_goesThrough_b138 (E : g_E) (k59 : Nat → Int32 → Int32 → g_G → Option (Int32 × g_G)) (k72 : Nat → Int32 → Int32 → Int32 → Int32 → g_G → Option (Int32 × g_G)) (k99 : Nat → Int32 → Int32 → Int32 → Int32 → Int32 → Int32 → g_G → Option (Int32 × g_G)) (t : Nat) (v1 : Int32) (v2 : Int32) (v3 : Int32) (v4 : Int32) (v5 : Int32) (v6 : Int32) (G : g_G) : Option (Int32 × g_G) :=
  k99 t v1 v2 v3 v4 v5 (v6 + 1) G
def fX1_goesThrough_b99 (E : g_E) (k59 : Nat → Int32 → Int32 → g_G → Option (Int32 × g_G)) (k72 : Nat → Int32 → Int32 → Int32 → Int32 → g_G → Option (Int32 × g_G)) : Nat → Nat → Int32 → Int32 → Int32 → Int32 → Int32 → Int32 → g_G → Option (Int32 × g_G)
  | 0, _, _, _, _, _, _, _, _ => none
  | n + 1, t, v1, v2, v3, v4, v5, v6, G =>
    (grI G 1 1 (some t) 0).bind fun x102 =>
    if x102 ≤ v6 then (
      k72 t v1 v2 v3 (v4 + 1) G)
    else (
      if ¬ ((v5 >>> (v6 &&& 31)) &&& 1) = 0 then (
        (gchk G 1 (some t)).bind fun b130 =>
        (fX1_tries E b130 v2 v4 v6 v1 G).bind fun z130 =>
        if ¬ z130.1 = 0 then (
          fX1_goesThrough_b138 E k59 k72 (fX1_goesThrough_b99 E k59 k72 n) t v1 v2 0 v4 v5 v6 z130.2)
        else (
          if (0 : Int32) = 0 ∨ (0 : Int32) = 1 then some (0, z130.2) else none))
      else (
        fX1_goesThrough_b138 E k59 k72 (fX1_goesThrough_b99 E k59 k72 n) t v1 v2 v3 v4 v5 v6 G))
def fX1_goesThrough_b72 (E : g_E) (k59 : Nat → Int32 → Int32 → g_G → Option (Int32 × g_G)) : Nat → Nat → Int32 → Int32 → Int32 → Int32 → g_G → Option (Int32 × g_G)
  | 0, _, _, _, _, _, _ => none
  | n + 1, t, v1, v2, v3, v4, G =>
    (grI G 1 1 (some t) 0).bind fun x75 =>
    if x75 ≤ v4 then (
      if v3 = 0 then (
        fX1_goesThrough_b164 E k59 t v1 v2 G)
      else (
        (grR G 1 1 (some t) 12).bind fun x156 =>
        (gaR G 121 x156 v2).bind fun x160 =>
        (gchk G 1 (some t)).bind fun b161 =>
        (fX1_endsWith E b161 x160 G).bind fun z161 =>
        fX1_goesThrough_b164 E k59 t v1 v2 z161))
    else (
      (grR G 1 1 (some t) 12).bind fun x83 =>
      (gaR G 121 x83 v2).bind fun x87 =>
      (gchk G 1 (some t)).bind fun b91 =>
      (fX1_moves E b91 x87 v4 v1 G).bind fun z91 =>
      fX1_goesThrough_b99 E k59 (fX1_goesThrough_b72 E k59 n) gFU t v1 v2 v3 v4 z91.1 0 z91.2)
def fX1_goesThrough_b59 (E : g_E) : Nat → Nat → Int32 → Int32 → g_G → Option (Int32 × g_G)
  | 0, _, _, _, _ => none
  | n + 1, t, v1, v2, G =>
    (grI G 1 1 (some t) 15).bind fun x61 =>
    if x61 ≤ v2 then (
      if (1 : Int32) = 0 ∨ (1 : Int32) = 1 then some (1, G) else none)
    else (
      fX1_goesThrough_b72 E (fX1_goesThrough_b59 E n) gFU t v1 v2 1 0 G)
def fX1_goesThrough_b37 (E : g_E) : Nat → Nat → Int32 → Int32 → g_G → Option (Int32 × g_G)
  | 0, _, _, _, _ => none
  | n + 1, t, v1, v2, G =>
    if (320 : Int32) ≤ v2 then (
      fX1_goesThrough_b59 E gFU t v1 0 G)
    else (
      (grR G 1 1 (some t) 17).bind fun x45 =>
      (gsaI E G x45 v2 0).bind fun G50 =>
      fX1_goesThrough_b37 E n t v1 (v2 + 1) G50)
def fX1_goesThrough (E : g_E) (t : Nat) (v1 : Int32) (G : g_G) : Option (Int32 × g_G) :=
  (grR G 1 1 (some t) 12).bind fun x2 =>
  (gaR G 121 x2 0).bind fun x6 =>
  (grI G 1 1 (some t) 0).bind fun x8 =>
  (gchk G 1 (some t)).bind fun b11 =>
  (fX1_begins E b11 x6 x8 G).bind fun z11 =>
  (grR z11 1 1 (some t) 12).bind fun x15 =>
  (gaR z11 121 x15 0).bind fun x19 =>
  (gchk z11 3 x19).bind fun b20 =>
  (fX3_hashes E b20 z11).bind fun z20 =>
  (gpI E z20 1 1 (some t) 15 1).bind fun G25 =>
  (grR G25 1 1 (some t) 16).bind fun x29 =>
  (gchk G25 17 x29).bind fun b32 =>
  (fJ2_clear E b32 G25).bind fun z32 =>
  fX1_goesThrough_b37 E gFU t v1 0 z32
def fX1_needs_b7 (E : g_E) : Nat → Nat → Int32 → g_G → Option (Int32 × g_G)
  | 0, _, _, _ => none
  | n + 1, t, v1, G =>
    if (3 : Int32) < v1 then (
      some ((-1), G))
    else (
      (gchk G 1 (some t)).bind fun b14 =>
      (fX1_goesThrough E b14 v1 G).bind fun z14 =>
      if ¬ z14.1 = 0 then (
        (gchk z14.2 1 (some t)).bind fun b23 =>
        (fX1_hasLocked E b23 z14.2).bind fun z23 =>
        if ¬ z23.1 = 0 then (
          fX1_needs_b7 E n t (v1 + 1) z23.2)
        else (
          some (v1, z23.2)))
      else (
        some ((-1), z14.2)))
def fX1_needs (E : g_E) (t : Nat) (G : g_G) : Option (Int32 × g_G) :=
  (gpZ E G 1 1 (some t) 13 0).bind fun G2 =>
  fX1_needs_b7 E gFU t 0 G2
def fX1_plays_b92 (E : g_E) (k54 : Nat → (Option Nat) → Int32 → Int32 → Int32 → g_G → Option (g_G)) (t : Nat) (v1 : Option Nat) (v2 : Int32) (v3 : Int32) (v4 : Int32) (G : g_G) : Option (g_G) :=
  k54 t v1 v2 v3 v4 G
def fX1_plays_b65 (E : g_E) (k54 : Nat → (Option Nat) → Int32 → Int32 → Int32 → g_G → Option (g_G)) : Nat → Nat → (Option Nat) → Int32 → Int32 → Int32 → Int32 → g_G → Option (g_G)
  | 0, _, _, _, _, _, _, _ => none
  | n + 1, t, v1, v2, v3, v4, v5, G =>
    if v2 ≤ v5 then (
      fX1_plays_b92 E k54 t v1 v2 v3 v4 G)
    else (
      if ¬ v4 = 0 then (
        fX1_plays_b92 E k54 t v1 v2 v3 v4 G)
      else (
        (gchk G 1 (some t)).bind fun b81 =>
        (fX1_goesOn E b81 v1 v5 v3 G).bind fun z81 =>
        fX1_plays_b65 E k54 n t v1 v2 v3 z81.1 (v5 + 1) z81.2))
def fX1_plays_b54 (E : g_E) : Nat → Nat → (Option Nat) → Int32 → Int32 → Int32 → g_G → Option (g_G)
  | 0, _, _, _, _, _, _ => none
  | n + 1, t, v1, v2, v3, v4, G =>
    if v4 = 0 then (
      some G)
    else (
      fX1_plays_b65 E (fX1_plays_b54 E n) gFU t v1 v2 v3 0 0 G)
def fX1_plays_b8 (E : g_E) : Nat → Nat → (Option Nat) → Int32 → Int32 → Int32 → g_G → Option (g_G)
  | 0, _, _, _, _, _, _ => none
  | n + 1, t, v1, v2, v3, v4, G =>
    if (8 : Int32) ≤ v4 then (
      (gchk G 1 (some t)).bind fun b48 =>
      (fX1_begins E b48 v1 v2 G).bind fun z48 =>
      fX1_plays_b54 E gFU t v1 v2 v3 1 z48)
    else (
      (grR G 1 1 (some t) 6).bind fun x16 =>
      (gsaI E G x16 v4 0).bind fun G22 =>
      (grR G22 1 1 (some t) 7).bind fun x24 =>
      (gsaI E G22 x24 v4 0).bind fun G30 =>
      (grR G30 1 1 (some t) 8).bind fun x32 =>
      (gsaI E G30 x32 v4 0).bind fun G38 =>
      fX1_plays_b8 E n t v1 v2 v3 (v4 + 1) G38)
def fX1_plays (E : g_E) (t : Nat) (v1 : Option Nat) (v2 : Int32) (v3 : Int32) (G : g_G) : Option (g_G) :=
  (gpI E G 1 1 (some t) 25 0).bind fun G2 =>
  fX1_plays_b8 E gFU t v1 v2 v3 0 G2
def fX5_choice_b90 (E : g_E) (fS : g_E → Nat → g_G → Option ((Option Nat × g_G) ⊕ gX)) (t : Nat) (v2 : Option Nat) (v3 : Option Nat) (v4 : Option Nat) (G : g_G) : Option ((Option Nat × g_G) ⊕ gX) :=
  (grI G 5 5 (some t) 5).bind fun x92 =>
  (gpI E G 5 5 (some t) 5 (x92 - 1)).bind fun G97 =>
  (gchk G97 5 (some t)).bind fun b104 =>
  gcat (fX5_need E b104 (some (gA E 55)) G97) (fun z104 =>
    (grR z104 5 5 (some t) 11).bind fun x108 =>
    (gchk z104 17 x108).bind fun b112 =>
    (fJ2_add_2 E b112 v2 z104).bind fun z112 =>
    (grR z112.2 5 5 (some t) 12).bind fun x117 =>
    (gchk z112.2 17 x117).bind fun b121 =>
    (fJ2_add_2 E b121 v3 z112.2).bind fun z121 =>
    (grR z121.2 5 5 (some t) 13).bind fun x126 =>
    (gchk z121.2 17 x126).bind fun b131 =>
    (fJ2_add_2 E b131 v4 z121.2).bind fun z131 =>
    some (.inl (v2, z131.2)))
  (fun y => some (.inr y))
def fX5_choice (E : g_E) (fS : g_E → Nat → g_G → Option ((Option Nat × g_G) ⊕ gX)) (t : Nat) (v1 : Int32) (G : g_G) : Option ((Option Nat × g_G) ⊕ gX) :=
  (grR G 5 5 (some t) 10).bind fun x1 =>
  (grR G 2 2 x1 0).bind fun x4 =>
  (gchk G 17 x4).bind fun b8 =>
  (fJ2_add_2 E b8 none G).bind fun z8 =>
  (gnewO E z8.2 14 6).bind fun z12 =>
  (gchk z12.2 5 (some t)).bind fun b18 =>
  gcat (fR_expr 10 E b18 z12.2) (fun z18 =>
    (fX16_init E z12.1 v1 z18.1 z18.2).bind fun z21 =>
    (grR z21 5 5 (some t) 10).bind fun x26 =>
    (grR z21 2 2 x26 0).bind fun x29 =>
    (gchk z21 17 x29).bind fun b34 =>
    (fJ2_set E b34 v1 (some z12.1) z21).bind fun z34 =>
    (gchk z34.2 5 (some t)).bind fun b42 =>
    gcat (fX5_need E b42 (some (gA E 53)) z34.2) (fun z42 =>
      (grI z42 5 5 (some t) 5).bind fun x47 =>
      (gpI E z42 5 5 (some t) 5 (x47 + 1)).bind fun G52 =>
      (gchk G52 5 (some t)).bind fun b56 =>
      gcat (fS E b56 G52) (fun z56 =>
        (gnewO E z56.2 17 3).bind fun z60 =>
        (fJ2_init E z60.1 1 z60.2).bind fun z65 =>
        (gchk z65 5 (some t)).bind fun b74 =>
        (fX5_is E b74 (some (gA E 54)) z65).bind fun z74 =>
        if z74.1 = 0 then (
          fX5_choice_b90 E fS t (some z12.1) z56.1 (some z60.1) z74.2)
        else (
          (gchk z74.2 5 (some t)).bind fun b81 =>
          (fX5_go E b81 z74.2).bind fun z81 =>
          (gchk z81 5 (some t)).bind fun b85 =>
          gcat (fS E b85 z81) (fun z85 =>
            fX5_choice_b90 E fS t (some z12.1) z56.1 z85.1 z85.2)
          (fun y => some (.inr y))))
      (fun y => some (.inr y)))
    (fun y => some (.inr y)))
  (fun y => some (.inr y))
def fX5_step_b178 (E : g_E) (fS : g_E → Nat → g_G → Option ((Option Nat × g_G) ⊕ gX)) (t : Nat) (v2 : Int32) (v3 : Option Nat) (G : g_G) : Option ((Option Nat × g_G) ⊕ gX) :=
  (grR G 5 5 (some t) 10).bind fun x179 =>
  (grR G 2 2 x179 0).bind fun x182 =>
  (gchk G 17 x182).bind fun b187 =>
  (fJ2_set E b187 v2 v3 G).bind fun z187 =>
  some (.inl (v3, z187.2))
def fX5_step (E : g_E) (fS : g_E → Nat → g_G → Option ((Option Nat × g_G) ⊕ gX)) (t : Nat) (v1 : Int32) (v2 : Int32) (G : g_G) : Option ((Option Nat × g_G) ⊕ gX) :=
  if v1 = 0 then (
    (gnewO E G 15 7).bind fun z61 =>
    (fX9_init E z61.1 v1 v2 z61.2).bind fun z67 =>
    (gchk z67 5 (some t)).bind fun b70 =>
    gcat (fX5_send E b70 (some z61.1) z67) (fun z70 =>
      fX5_step_b178 E fS t v2 z70.1 z70.2)
    (fun y => some (.inr y)))
  else
  if v1 = 1 then (
    (gnewO E G 15 7).bind fun z61 =>
    (fX9_init E z61.1 v1 v2 z61.2).bind fun z67 =>
    (gchk z67 5 (some t)).bind fun b70 =>
    gcat (fX5_send E b70 (some z61.1) z67) (fun z70 =>
      fX5_step_b178 E fS t v2 z70.1 z70.2)
    (fun y => some (.inr y)))
  else
  if v1 = 2 then (
    (gnewO E G 15 7).bind fun z61 =>
    (fX9_init E z61.1 v1 v2 z61.2).bind fun z67 =>
    (gchk z67 5 (some t)).bind fun b70 =>
    gcat (fX5_send E b70 (some z61.1) z67) (fun z70 =>
      fX5_step_b178 E fS t v2 z70.1 z70.2)
    (fun y => some (.inr y)))
  else
  if v1 = 3 then (
    (gnewO E G 16 7).bind fun z78 =>
    (fX13_init E z78.1 v1 v2 z78.2).bind fun z84 =>
    (gchk z84 5 (some t)).bind fun b87 =>
    gcat (fX5_wait E b87 (some z78.1) z84) (fun z87 =>
      fX5_step_b178 E fS t v2 z87.1 z87.2)
    (fun y => some (.inr y)))
  else
  if v1 = 4 then (
    (gnewO E G 16 7).bind fun z78 =>
    (fX13_init E z78.1 v1 v2 z78.2).bind fun z84 =>
    (gchk z84 5 (some t)).bind fun b87 =>
    gcat (fX5_wait E b87 (some z78.1) z84) (fun z87 =>
      fX5_step_b178 E fS t v2 z87.1 z87.2)
    (fun y => some (.inr y)))
  else
  if v1 = 8 then (
    (grR G 5 5 (some t) 10).bind fun x95 =>
    (grR G 2 2 x95 0).bind fun x98 =>
    (gchk G 17 x98).bind fun b102 =>
    (fJ2_add_2 E b102 none G).bind fun z102 =>
    (gchk z102.2 5 (some t)).bind fun b107 =>
    gcat (fX5_var E b107 z102.2) (fun z107 =>
      (gnewO E z107.2 12 5).bind fun z112 =>
      (gchk z112.2 5 (some t)).bind fun b120 =>
      gcat (fR_expr 10 E b120 z112.2) (fun z120 =>
        (fX14_init E z112.1 v2 z107.1 z120.1 z120.2).bind fun z123 =>
        fX5_step_b178 E fS t v2 (some z112.1) z123)
      (fun y => some (.inr y)))
    (fun y => some (.inr y)))
  else
  if v1 = 9 then (
    (grR G 5 5 (some t) 10).bind fun x131 =>
    (grR G 2 2 x131 0).bind fun x134 =>
    (gchk G 17 x134).bind fun b138 =>
    (fJ2_add_2 E b138 none G).bind fun z138 =>
    (gnewO E z138.2 13 4).bind fun z142 =>
    (gchk z142.2 5 (some t)).bind fun b148 =>
    gcat (fR_expr 10 E b148 z142.2) (fun z148 =>
      (fX15_init E z142.1 v2 z148.1 z148.2).bind fun z151 =>
      fX5_step_b178 E fS t v2 (some z142.1) z151)
    (fun y => some (.inr y)))
  else
  if v1 = 10 then (
    (gchk G 5 (some t)).bind fun b160 =>
    gcat (fX5_choice E fS b160 v2 G) (fun z160 =>
      some (.inl (z160.1, z160.2)))
    (fun y => some (.inr y)))
  else
  (
    (gnewO E G 11 5).bind fun z165 =>
    (fX17_init E z165.1 v1 v2 z165.2).bind fun z171 =>
    (gchk z171 5 (some t)).bind fun b174 =>
    gcat (fX5_plain E b174 (some z165.1) z171) (fun z174 =>
      fX5_step_b178 E fS t v2 z174.1 z174.2)
    (fun y => some (.inr y)))
def fX5_steps_b73 (E : g_E) (fS : g_E → Nat → g_G → Option ((Option Nat × g_G) ⊕ gX)) (k9 : Nat → (Option Nat) → g_G → Option ((Option Nat × g_G) ⊕ gX)) (t : Nat) (v1 : Option Nat) (v2 : Int32) (s0 : Option Nat) (s1 : Int32) (G : g_G) : Option ((Option Nat × g_G) ⊕ gX) :=
  (gchk G 5 s0).bind fun b74 =>
  gcat (fX5_check E b74 s1 2 G) (fun z74 =>
    (gchk z74 5 (some t)).bind fun b78 =>
    (fX5_go E b78 z74).bind fun z78 =>
    (grR z78 5 5 (some t) 10).bind fun x85 =>
    (grR z78 2 2 x85 0).bind fun x88 =>
    (gchk z78 17 x88).bind fun b91 =>
    (fJ2_size E b91 z78).bind fun z91 =>
    (gchk z91.2 5 (some t)).bind fun b94 =>
    gcat (fX5_step E fS b94 v2 z91.1 z91.2) (fun z94 =>
      (gchk z94.2 17 v1).bind fun b97 =>
      (fJ2_add_2 E b97 z94.1 z94.2).bind fun z97 =>
      (gchk z97.2 5 (some t)).bind fun b104 =>
      gcat (fX5_need E b104 (some (gA E 56)) z97.2) (fun z104 =>
        k9 t v1 z104)
      (fun y => some (.inr y)))
    (fun y => some (.inr y)))
  (fun y => some (.inr y))
def fX5_steps_b72 (E : g_E) (fS : g_E → Nat → g_G → Option ((Option Nat × g_G) ⊕ gX)) (k9 : Nat → (Option Nat) → g_G → Option ((Option Nat × g_G) ⊕ gX)) (t : Nat) (v1 : Option Nat) (v2 : Int32) (s0 : Option Nat) (G : g_G) : Option ((Option Nat × g_G) ⊕ gX) :=
  fX5_steps_b73 E fS k9 t v1 v2 s0 0 G
def fX5_steps_b68 (E : g_E) (fS : g_E → Nat → g_G → Option ((Option Nat × g_G) ⊕ gX)) (k9 : Nat → (Option Nat) → g_G → Option ((Option Nat × g_G) ⊕ gX)) (t : Nat) (v1 : Option Nat) (v2 : Int32) (s0 : Option Nat) (G : g_G) : Option ((Option Nat × g_G) ⊕ gX) :=
  fX5_steps_b73 E fS k9 t v1 v2 s0 1 G
def fX5_steps_b9 (E : g_E) (fS : g_E → Nat → g_G → Option ((Option Nat × g_G) ⊕ gX)) : Nat → Nat → (Option Nat) → g_G → Option ((Option Nat × g_G) ⊕ gX)
  | 0, _, _, _ => none
  | n + 1, t, v1, G =>
    (grR G 5 5 (some t) 8).bind fun x10 =>
    if ¬ x10 = (some (gA E 1)) then (
      some (.inl (v1, G)))
    else (
      (grR G 5 5 (some t) 9).bind fun x20 =>
      (fX5_kindOf E x20 G).bind fun z23 =>
      if z23.1 = (-1 : Int32) then (
        some (.inl (v1, z23.2)))
      else (
        (grR z23.2 5 5 (some t) 9).bind fun x31 =>
        (fX5_kindOf E x31 z23.2).bind fun z34 =>
        (grR z34.2 5 5 (some t) 10).bind fun x40 =>
        (grR z34.2 2 2 x40 0).bind fun x43 =>
        (gchk z34.2 17 x43).bind fun b46 =>
        (fJ2_size E b46 z34.2).bind fun z46 =>
        if (40 : Int32) ≤ z46.1 then (
          fX5_steps_b72 E fS (fX5_steps_b9 E fS n) t v1 z34.1 (some t) z46.2)
        else (
          if ¬ z34.1 = (10 : Int32) then (
            fX5_steps_b68 E fS (fX5_steps_b9 E fS n) t v1 z34.1 (some t) z46.2)
          else (
            (grI z46.2 5 5 (some t) 5).bind fun x61 =>
            if (4 : Int32) ≤ x61 then (
              fX5_steps_b72 E fS (fX5_steps_b9 E fS n) t v1 z34.1 (some t) z46.2)
            else (
              fX5_steps_b68 E fS (fX5_steps_b9 E fS n) t v1 z34.1 (some t) z46.2)))))
def fX5_steps (E : g_E) (fS : g_E → Nat → g_G → Option ((Option Nat × g_G) ⊕ gX)) (t : Nat) (G : g_G) : Option ((Option Nat × g_G) ⊕ gX) :=
  (gnewO E G 17 3).bind fun z0 =>
  (fJ2_init E z0.1 2 z0.2).bind fun z5 =>
  fX5_steps_b9 E fS gFU t (some z0.1) z5
def fR_steps : Nat → g_E → Nat → g_G → Option ((Option Nat × g_G) ⊕ gX)
  | 0 => fun _ _ _ => none
  | d + 1 => fun E t G => fX5_steps E (fR_steps d) t G
def fX1_finds_b27 (E : g_E) (t : Nat) (G : g_G) : Option (Int32 × g_G) :=
  (gpZ E G 1 1 (some t) 13 1).bind fun G29 =>
  (grI G29 1 1 (some t) 14).bind fun x33 =>
  if ¬ x33 = 0 then (
    if (0 : Int32) = 0 ∨ (0 : Int32) = 1 then some (0, G29) else none)
  else (
    if (1 : Int32) = 0 ∨ (1 : Int32) = 1 then some (1, G29) else none)
def fX1_finds_b24 (E : g_E) (t : Nat) (s0 : Option Nat) (s1 : Int32) (G : g_G) : Option (Int32 × g_G) :=
  (gpZ E G 1 1 s0 14 s1).bind fun G24 =>
  fX1_finds_b27 E t G24
def fX1_finds (E : g_E) (t : Nat) (G : g_G) : Option (Int32 × g_G) :=
  (grI G 1 1 (some t) 13).bind fun x1 =>
  if ¬ x1 = 0 then (
    fX1_finds_b27 E t G)
  else (
    (grI G 1 1 (some t) 1).bind fun x10 =>
    (gchk G 1 (some t)).bind fun b13 =>
    (fX1_goesThrough E b13 x10 G).bind fun z13 =>
    if ¬ z13.1 = 0 then (
      fX1_finds_b24 E t (some t) 0 z13.2)
    else (
      fX1_finds_b24 E t (some t) 1 z13.2))
def fX1_least_b29 (E : g_E) : Nat → Nat → Int32 → Int32 → g_G → Option ((Int32 × g_G) ⊕ gX)
  | 0, _, _, _, _ => none
  | n + 1, t, v1, v2, G =>
    if (8 : Int32) < v2 then (
      some (.inl ((-1), G)))
    else (
      (grR G 1 1 (some t) 32).bind fun x37 =>
      (gchk G 1 (some t)).bind fun b42 =>
      (fX1_plays E b42 x37 v2 v1 G).bind fun z42 =>
      (grR z42 1 1 (some t) 32).bind fun x46 =>
      (gchk z42 3 x46).bind fun b49 =>
      (fX3_kind E b49 z42).bind fun z49 =>
      if ¬ z49.1 = (2 : Int32) then (
        fX1_least_b29 E n t v1 (v2 + 1) z49.2)
      else (
        some (.inl (v2, z49.2))))
def fX1_least (E : g_E) (t : Nat) (v1 : Int32) (G : g_G) : Option ((Int32 × g_G) ⊕ gX) :=
  (fX1_within E v1 0 3 G).bind fun z3 =>
  gcat (fX1_right E z3.1 z3.2) (fun z6 =>
    (grR z6 1 1 (some t) 4).bind fun x10 =>
    (grI z6 2 2 x10 2).bind fun x13 =>
    if x13 ≤ 0 then (
      (gpI E z6 1 1 (some t) 26 0).bind fun G24 =>
      fX1_least_b29 E gFU t v1 2 G24)
    else (
      some (.inl ((-2), z6))))
  (fun y => some (.inr y))
def fX1_play_b172 (E : g_E) : Nat → Nat → Int32 → g_G → Option ((Int32 × g_G) ⊕ gX)
  | 0, _, _, _ => none
  | n + 1, t, v4, G =>
    (grI G 1 1 (some t) 25).bind fun x175 =>
    if x175 ≤ v4 then (
      (grR G 1 1 (some t) 20).bind fun x202 =>
      (gchk G 3 x202).bind fun b205 =>
      (fX3_kind E b205 G).bind fun z205 =>
      some (.inl (z205.1, z205.2)))
    else (
      (grR G 1 1 (some t) 30).bind fun x182 =>
      (grR G 1 1 (some t) 22).bind fun x188 =>
      (gaI G 100 x188 v4).bind fun x193 =>
      (gsaI E G x182 v4 x193).bind fun G194 =>
      fX1_play_b172 E n t (v4 + 1) G194)
def fX1_play_b118 (E : g_E) : Nat → Nat → Int32 → g_G → Option ((Int32 × g_G) ⊕ gX)
  | 0, _, _, _ => none
  | n + 1, t, v4, G =>
    (grI G 1 1 (some t) 0).bind fun x121 =>
    if x121 ≤ v4 then (
      (grI G 1 1 (some t) 25).bind fun x163 =>
      (gpI E G 1 1 (some t) 31 x163).bind fun G166 =>
      fX1_play_b172 E gFU t 0 G166)
    else (
      (grR G 1 1 (some t) 28).bind fun x128 =>
      (grR G 1 1 (some t) 6).bind fun x134 =>
      (gaI G 100 x134 v4).bind fun x139 =>
      (gsaI E G x128 v4 x139).bind fun G140 =>
      (grR G140 1 1 (some t) 29).bind fun x142 =>
      (grR G140 1 1 (some t) 7).bind fun x148 =>
      (gaI G140 100 x148 v4).bind fun x153 =>
      (gsaI E G140 x142 v4 x153).bind fun G154 =>
      fX1_play_b118 E n t (v4 + 1) G154)
def fX1_play_b60 (E : g_E) : Nat → Nat → Int32 → Int64 → Int32 → g_G → Option ((Int32 × g_G) ⊕ gX)
  | 0, _, _, _, _, _ => none
  | n + 1, t, v1, v2, v4, G =>
    if v1 ≤ v4 then (
      (grR G 1 1 (some t) 20).bind fun x92 =>
      (grI G 1 1 (some t) 0).bind fun x96 =>
      (grI G 1 1 (some t) 1).bind fun x100 =>
      (gchk G 1 (some t)).bind fun b103 =>
      (fX1_plays E b103 x92 x96 x100 G).bind fun z103 =>
      (gpZ E z103 1 1 (some t) 21 1).bind fun G108 =>
      (gchk G108 1 (some t)).bind fun b112 =>
      (fX1_rounds E b112 G108).bind fun z112 =>
      fX1_play_b118 E gFU t 0 z112)
    else (
      (grR G 1 1 (some t) 23).bind fun x67 =>
      (gsaI E G x67 v4 (Int64.toInt32 ((v2 >>> (Int32.toInt64 (4 * v4) &&& 63)) &&& 15))).bind fun G83 =>
      fX1_play_b60 E n t v1 v2 (v4 + 1) G83)
def fX1_play_b43 (E : g_E) (k13 : Nat → Int32 → Int64 → Int32 → g_G → Option ((Int32 × g_G) ⊕ gX)) (t : Nat) (v1 : Int32) (v2 : Int64) (v4 : Int32) (s0 : Int32) (G : g_G) : Option ((Int32 × g_G) ⊕ gX) :=
  gcat (fX1_right E s0 G) (fun z43 =>
    k13 t v1 v2 (v4 + 1) z43)
  (fun y => some (.inr y))
def fX1_play_b13 (E : g_E) : Nat → Nat → Int32 → Int64 → Int32 → g_G → Option ((Int32 × g_G) ⊕ gX)
  | 0, _, _, _, _, _ => none
  | n + 1, t, v1, v2, v4, G =>
    if v1 ≤ v4 then (
      (gpI E G 1 1 (some t) 26 v1).bind fun G54 =>
      fX1_play_b60 E gFU t v1 v2 0 G54)
    else (
      (grI G 1 1 (some t) 0).bind fun x30 =>
      if 0 ≤ (lg_cmp ((v2 >>> (Int32.toInt64 (4 * v4) &&& 63)) &&& 15) (Int32.toInt64 x30)) then (
        fX1_play_b43 E (fX1_play_b13 E n) t v1 v2 v4 0 G)
      else (
        fX1_play_b43 E (fX1_play_b13 E n) t v1 v2 v4 1 G))
def fX1_play (E : g_E) (t : Nat) (v1 : Int32) (v2 : Int64) (G : g_G) : Option ((Int32 × g_G) ⊕ gX) :=
  (fX1_within E v1 0 16 G).bind fun z4 =>
  gcat (fX1_right E z4.1 z4.2) (fun z7 =>
    fX1_play_b13 E gFU t v1 v2 0 z7)
  (fun y => some (.inr y))
def fX1_reached (E : g_E) (t : Nat) (G : g_G) : Option (Int32 × g_G) :=
  (gchk G 1 (some t)).bind fun b1 =>
  (fX1_finds E b1 G).bind fun z1 =>
  if z1.1 = 0 then (
    some ((-1), z1.2))
  else (
    (grI z1.2 1 1 (some t) 15).bind fun x8 =>
    some (x8, z1.2))
def fX5_read_b21 (E : g_E) (t : Nat) (v1 : Option Nat) (s0 : Option Nat) (s1 : Int32) (G : g_G) : Option ((Option Nat × g_G) ⊕ gX) :=
  (gchk G 5 s0).bind fun b22 =>
  gcat (fX5_check E b22 s1 1 G) (fun z22 =>
    (grR z22 5 5 (some t) 10).bind fun x26 =>
    (fX5_links E v1 none z22).bind fun z31 =>
    (gpR E z31.2 2 2 x26 1 z31.1).bind fun G34 =>
    (gchk G34 5 (some t)).bind fun b38 =>
    (fX5_joins E b38 G34).bind fun z38 =>
    (grR z38 5 5 (some t) 10).bind fun x42 =>
    some (.inl (x42, z38)))
  (fun y => some (.inr y))
def fX5_read (E : g_E) (t : Nat) (G : g_G) : Option ((Option Nat × g_G) ⊕ gX) :=
  (gchk G 5 (some t)).bind fun b1 =>
  gcat (fR_steps 7 E b1 G) (fun z1 =>
    (grR z1.2 5 5 (some t) 8).bind fun x7 =>
    if ¬ x7 = (some (gA E 5)) then (
      fX5_read_b21 E t z1.1 (some t) 0 z1.2)
    else (
      fX5_read_b21 E t z1.1 (some t) 1 z1.2))
  (fun y => some (.inr y))
def fX0_least (E : g_E) (v0 : Option Nat) (v1 : Int32) (v2 : Option Nat) (G : g_G) : Option ((Int32 × g_G) ⊕ gX) :=
  (gchk G 1 v0).bind fun b4 =>
  gcat (fX1_least E b4 v1 G) (fun z4 =>
    (gsaL E z4.2 v2 0 (Int32.toInt64 z4.1)).bind fun G8 =>
    some (.inl (0, G8)))
  (fun y => if y.1 = 21 then (
    some (.inl (1, y.2.2))) else none)
def fX0_play (E : g_E) (v0 : Option Nat) (v1 : Int32) (v2 : Int64) (v4 : Option Nat) (G : g_G) : Option ((Int32 × g_G) ⊕ gX) :=
  (gchk G 1 v0).bind fun b6 =>
  gcat (fX1_play E b6 v1 v2 G) (fun z6 =>
    (gsaL E z6.2 v4 0 (Int32.toInt64 z6.1)).bind fun G10 =>
    some (.inl (0, G10)))
  (fun y => if y.1 = 21 then (
    some (.inl (1, y.2.2))) else none)
def fX1_could_b46 (E : g_E) (t : Nat) (v1 : Int32) (v2 : Int32) (s0 : Int32) (G : g_G) : Option ((Int32 × g_G) ⊕ gX) :=
  gcat (fX1_there E s0 G) (fun z46 =>
    (gchk z46 1 (some t)).bind fun b50 =>
    (fX1_finds E b50 z46).bind fun z50 =>
    if z50.1 = 0 then (
      some (.inl ((-1), z50.2)))
    else (
      (grR z50.2 1 1 (some t) 17).bind fun x57 =>
      (gaI z50.2 100 x57 ((8 * v2) + v1)).bind fun x66 =>
      some (.inl (x66, z50.2))))
  (fun y => some (.inr y))
def fX1_could_b45 (E : g_E) (t : Nat) (v1 : Int32) (v2 : Int32) (G : g_G) : Option ((Int32 × g_G) ⊕ gX) :=
  fX1_could_b46 E t v1 v2 0 G
def fX1_could (E : g_E) (t : Nat) (v1 : Int32) (v2 : Int32) (G : g_G) : Option ((Int32 × g_G) ⊕ gX) :=
  if v1 < 0 then (
    fX1_could_b45 E t v1 v2 G)
  else (
    (grI G 1 1 (some t) 0).bind fun x6 =>
    if x6 ≤ v1 then (
      fX1_could_b45 E t v1 v2 G)
    else (
      (gchk G 1 (some t)).bind fun b14 =>
      (fX1_isStep E b14 v2 G).bind fun z14 =>
      if z14.1 = 0 then (
        fX1_could_b45 E t v1 v2 z14.2)
      else (
        (grR z14.2 1 1 (some t) 4).bind fun x21 =>
        (grR z14.2 2 2 x21 0).bind fun x24 =>
        (gchk z14.2 17 x24).bind fun b28 =>
        (fJ2_get E b28 v2 z14.2).bind fun z28 =>
        (gcast z28.2 11 16 z28.1).bind fun x31 =>
        (grI z28.2 11 16 x31 0).bind fun x34 =>
        if ¬ x34 = (4 : Int32) then (
          fX1_could_b45 E t v1 v2 z28.2)
        else (
          fX1_could_b46 E t v1 v2 1 z28.2))))
def fX1_cut_b110 (E : g_E) : Nat → Nat → Int32 → Int32 → g_G → Option (Int32 × g_G)
  | 0, _, _, _, _ => none
  | n + 1, t, v1, v2, G =>
    if (40 : Int32) ≤ v2 then (
      (gpZ E G 1 1 (some t) 18 1).bind fun G143 =>
      some (v1, G143))
    else (
      (grR G 1 1 (some t) 19).bind fun x117 =>
      (grR G 1 1 (some t) 5).bind fun x122 =>
      (gaI G 102 x122 v2).bind fun x126 =>
      (gsaZ E G x117 v2 x126).bind fun G127 =>
      (grR G127 1 1 (some t) 5).bind fun x129 =>
      (gsaZ E G127 x129 v2 0).bind fun G134 =>
      fX1_cut_b110 E n t v1 (v2 + 1) G134)
def fX1_cut_b102 (E : g_E) (k25 : Nat → Int32 → Int32 → g_G → Option (Int32 × g_G)) (t : Nat) (v1 : Int32) (v2 : Int32) (G : g_G) : Option (Int32 × g_G) :=
  k25 t v1 (v2 + 1) G
def fX1_cut_b92 (E : g_E) (k25 : Nat → Int32 → Int32 → g_G → Option (Int32 × g_G)) (t : Nat) (v1 : Int32) (v2 : Int32) (G : g_G) : Option (Int32 × g_G) :=
  (grR G 1 1 (some t) 5).bind fun x93 =>
  (gsaZ E G x93 v2 0).bind fun G98 =>
  fX1_cut_b102 E k25 t (v1 + 1) v2 G98
def fX1_cut_b25 (E : g_E) : Nat → Nat → Int32 → Int32 → g_G → Option (Int32 × g_G)
  | 0, _, _, _, _ => none
  | n + 1, t, v1, v2, G =>
    (grR G 1 1 (some t) 4).bind fun x27 =>
    (grR G 2 2 x27 0).bind fun x30 =>
    (gchk G 17 x30).bind fun b33 =>
    (fJ2_size E b33 G).bind fun z33 =>
    if z33.1 ≤ v2 then (
      fX1_cut_b110 E gFU t v1 0 z33.2)
    else (
      (grR z33.2 1 1 (some t) 4).bind fun x40 =>
      (grR z33.2 2 2 x40 0).bind fun x43 =>
      (gchk z33.2 17 x43).bind fun b47 =>
      (fJ2_get E b47 v2 z33.2).bind fun z47 =>
      (gcast z47.2 11 16 z47.1).bind fun x50 =>
      (grI z47.2 11 16 x50 0).bind fun x53 =>
      if ¬ x53 = (10 : Int32) then (
        (grR z47.2 1 1 (some t) 5).bind fun x65 =>
        (gsaZ E z47.2 x65 v2 1).bind fun G70 =>
        (grI G70 1 1 (some t) 1).bind fun x73 =>
        (gchk G70 1 (some t)).bind fun b76 =>
        (fX1_goesThrough E b76 x73 G70).bind fun z76 =>
        if z76.1 = 0 then (
          fX1_cut_b92 E (fX1_cut_b25 E n) t v1 v2 z76.2)
        else (
          (gchk z76.2 1 (some t)).bind fun b83 =>
          (fX1_hasLocked E b83 z76.2).bind fun z83 =>
          if z83.1 = 0 then (
            fX1_cut_b92 E (fX1_cut_b25 E n) t v1 v2 z83.2)
          else (
            fX1_cut_b102 E (fX1_cut_b25 E n) t v1 v2 z83.2)))
      else (
        fX1_cut_b102 E (fX1_cut_b25 E n) t v1 v2 z47.2))
def fX1_cut (E : g_E) (t : Nat) (G : g_G) : Option (Int32 × g_G) :=
  (gchk G 1 (some t)).bind fun b1 =>
  (fX1_finds E b1 G).bind fun z1 =>
  if z1.1 = 0 then (
    some ((-1), z1.2))
  else (
    (gchk z1.2 1 (some t)).bind fun b8 =>
    (fX1_hasLocked E b8 z1.2).bind fun z8 =>
    if ¬ z8.1 = 0 then (
      (gpZ E z8.2 1 1 (some t) 13 0).bind fun G18 =>
      fX1_cut_b25 E gFU t 0 0 G18)
    else (
      some ((-1), z8.2)))
def fX1_differs_b93 (E : g_E) (k13 : Nat → (Option Nat) → Int32 → g_G → Option (Int32 × g_G)) (t : Nat) (v1 : Option Nat) (v2 : Int32) (G : g_G) : Option (Int32 × g_G) :=
  k13 t v1 (v2 + 1) G
def fX1_differs_b87 (E : g_E) (k13 : Nat → (Option Nat) → Int32 → g_G → Option (Int32 × g_G)) (t : Nat) (v1 : Option Nat) (v2 : Int32) (v3 : Option Nat) (G : g_G) : Option (Int32 × g_G) :=
  if ¬ v1 = none then (
    fX1_differs_b93 E k13 t v1 v2 G)
  else (
    fX1_differs_b93 E k13 t v3 v2 G)
def fX1_differs_b49 (E : g_E) (k13 : Nat → (Option Nat) → Int32 → g_G → Option (Int32 × g_G)) : Nat → Nat → (Option Nat) → Int32 → (Option Nat) → Int32 → g_G → Option (Int32 × g_G)
  | 0, _, _, _, _, _, _ => none
  | n + 1, t, v1, v2, v3, v4, G =>
    if v1 = none then (
      fX1_differs_b87 E k13 t v1 v2 v3 G)
    else (
      (grI G 1 1 (some t) 0).bind fun x56 =>
      if x56 ≤ v4 then (
        fX1_differs_b87 E k13 t v1 v2 v3 G)
      else (
        (grR G 7 7 v3 3).bind fun x63 =>
        (gaI G 100 x63 v4).bind fun x68 =>
        (grR G 7 7 v1 3).bind fun x70 =>
        (gaI G 100 x70 v4).bind fun x75 =>
        if x68 = x75 then (
          fX1_differs_b49 E k13 n t v1 v2 v3 (v4 + 1) G)
        else (
          if (1 : Int32) = 0 ∨ (1 : Int32) = 1 then some (1, G) else none)))
def fX1_differs_b13 (E : g_E) : Nat → Nat → (Option Nat) → Int32 → g_G → Option (Int32 × g_G)
  | 0, _, _, _, _ => none
  | n + 1, t, v1, v2, G =>
    (grR G 1 1 (some t) 16).bind fun x15 =>
    (gchk G 17 x15).bind fun b18 =>
    (fJ2_size E b18 G).bind fun z18 =>
    if z18.1 ≤ v2 then (
      if (0 : Int32) = 0 ∨ (0 : Int32) = 1 then some (0, z18.2) else none)
    else (
      (grR z18.2 1 1 (some t) 16).bind fun x25 =>
      (gchk z18.2 17 x25).bind fun b29 =>
      (fJ2_get E b29 v2 z18.2).bind fun z29 =>
      (gcast z29.2 7 7 z29.1).bind fun x32 =>
      (grI z29.2 7 7 x32 0).bind fun x37 =>
      if x37 = 0 then (
        fX1_differs_b49 E (fX1_differs_b13 E n) gFU t v1 v2 x32 0 z29.2)
      else (
        fX1_differs_b93 E (fX1_differs_b13 E n) t v1 v2 z29.2))
def fX1_differs (E : g_E) (t : Nat) (G : g_G) : Option (Int32 × g_G) :=
  (gchk G 1 (some t)).bind fun b1 =>
  (fX1_finds E b1 G).bind fun z1 =>
  if ¬ z1.1 = 0 then (
    fX1_differs_b13 E gFU t none 0 z1.2)
  else (
    if (0 : Int32) = 0 ∨ (0 : Int32) = 1 then some (0, z1.2) else none)
def fX1_ending_b51 (E : g_E) (t : Nat) (v1 : Int32) (v2 : Int32) (s0 : Int32) (G : g_G) : Option ((Int32 × g_G) ⊕ gX) :=
  gcat (fX1_there E s0 G) (fun z51 =>
    (grR z51 1 1 (some t) 16).bind fun x55 =>
    (gchk z51 17 x55).bind fun b59 =>
    (fJ2_get E b59 v1 z51).bind fun z59 =>
    (gcast z59.2 7 7 z59.1).bind fun x62 =>
    if ¬ v2 = 0 then (
      if ¬ v2 = (1 : Int32) then (
        if ¬ v2 = (2 : Int32) then (
          (grR z59.2 7 7 x62 3).bind fun x102 =>
          (gaI z59.2 100 x102 (v2 - 4)).bind fun x108 =>
          some (.inl (x108, z59.2)))
        else (
          (grI z59.2 7 7 x62 2).bind fun x95 =>
          some (.inl (x95, z59.2))))
      else (
        (grI z59.2 7 7 x62 1).bind fun x83 =>
        some (.inl (x83, z59.2))))
    else (
      (grI z59.2 7 7 x62 0).bind fun x71 =>
      some (.inl (x71, z59.2))))
  (fun y => some (.inr y))
def fX1_ending_b46 (E : g_E) (t : Nat) (v1 : Int32) (v2 : Int32) (G : g_G) : Option ((Int32 × g_G) ⊕ gX) :=
  fX1_ending_b51 E t v1 v2 1 G
def fX1_ending_b50 (E : g_E) (t : Nat) (v1 : Int32) (v2 : Int32) (G : g_G) : Option ((Int32 × g_G) ⊕ gX) :=
  fX1_ending_b51 E t v1 v2 0 G
def fX1_ending (E : g_E) (t : Nat) (v1 : Int32) (v2 : Int32) (G : g_G) : Option ((Int32 × g_G) ⊕ gX) :=
  (gchk G 1 (some t)).bind fun b1 =>
  (fX1_finds E b1 G).bind fun z1 =>
  if z1.1 = 0 then (
    fX1_ending_b50 E t v1 v2 z1.2)
  else (
    if v1 < 0 then (
      fX1_ending_b50 E t v1 v2 z1.2)
    else (
      (grR z1.2 1 1 (some t) 16).bind fun x13 =>
      (gchk z1.2 17 x13).bind fun b16 =>
      (fJ2_size E b16 z1.2).bind fun z16 =>
      if z16.1 ≤ v1 then (
        fX1_ending_b50 E t v1 v2 z16.2)
      else (
        (fX1_within E v2 0 2 z16.2).bind fun z25 =>
        if ¬ z25.1 = 0 then (
          fX1_ending_b46 E t v1 v2 z25.2)
        else (
          if v2 < (4 : Int32) then (
            fX1_ending_b50 E t v1 v2 z25.2)
          else (
            (grI z25.2 1 1 (some t) 0).bind fun x40 =>
            if x40 ≤ (v2 - 4) then (
              fX1_ending_b50 E t v1 v2 z25.2)
            else (
              fX1_ending_b46 E t v1 v2 z25.2))))))
def fX1_endings_b60 (E : g_E) (k23 : Nat → Int32 → Int32 → Int32 → g_G → Option ((Int32 × g_G) ⊕ gX)) (t : Nat) (v1 : Int32) (v2 : Int32) (v3 : Int32) (G : g_G) : Option ((Int32 × g_G) ⊕ gX) :=
  k23 t v1 v2 (v3 + 1) G
def fX1_endings_b57 (E : g_E) (k23 : Nat → Int32 → Int32 → Int32 → g_G → Option ((Int32 × g_G) ⊕ gX)) (t : Nat) (v1 : Int32) (v2 : Int32) (v3 : Int32) (G : g_G) : Option ((Int32 × g_G) ⊕ gX) :=
  fX1_endings_b60 E k23 t v1 (v2 + 1) v3 G
def fX1_endings_b23 (E : g_E) : Nat → Nat → Int32 → Int32 → Int32 → g_G → Option ((Int32 × g_G) ⊕ gX)
  | 0, _, _, _, _, _ => none
  | n + 1, t, v1, v2, v3, G =>
    (grR G 1 1 (some t) 16).bind fun x25 =>
    (gchk G 17 x25).bind fun b28 =>
    (fJ2_size E b28 G).bind fun z28 =>
    if z28.1 ≤ v3 then (
      some (.inl (v2, z28.2)))
    else (
      if v1 = (-1 : Int32) then (
        fX1_endings_b57 E (fX1_endings_b23 E n) t v1 v2 v3 z28.2)
      else (
        (grR z28.2 1 1 (some t) 16).bind fun x40 =>
        (gchk z28.2 17 x40).bind fun b44 =>
        (fJ2_get E b44 v3 z28.2).bind fun z44 =>
        (gcast z44.2 7 7 z44.1).bind fun x47 =>
        (grI z44.2 7 7 x47 0).bind fun x50 =>
        if ¬ x50 = v1 then (
          fX1_endings_b60 E (fX1_endings_b23 E n) t v1 v2 v3 z44.2)
        else (
          fX1_endings_b57 E (fX1_endings_b23 E n) t v1 v2 v3 z44.2)))
def fX1_endings (E : g_E) (t : Nat) (v1 : Int32) (G : g_G) : Option ((Int32 × g_G) ⊕ gX) :=
  (fX1_within E v1 (-1) 2 G).bind fun z3 =>
  gcat (fX1_there E z3.1 z3.2) (fun z6 =>
    (gchk z6 1 (some t)).bind fun b10 =>
    (fX1_finds E b10 z6).bind fun z10 =>
    if ¬ z10.1 = 0 then (
      fX1_endings_b23 E gFU t v1 0 0 z10.2)
    else (
      some (.inl ((-2), z10.2))))
  (fun y => some (.inr y))
def fX1_text_b17 (E : g_E) (t : Nat) (v1 : Int32) (s0 : Int32) (G : g_G) : Option ((Int32 × g_G) ⊕ gX) :=
  gcat (fX1_right E s0 G) (fun z17 =>
    (gpI E z17 1 1 (some t) 10 0).bind fun G22 =>
    (gpI E G22 1 1 (some t) 11 (-1)).bind fun G27 =>
    (gnewO E G27 5 14).bind fun z31 =>
    (grR z31.2 1 1 (some t) 9).bind fun x36 =>
    (fX5_init E z31.1 x36 v1 z31.2).bind fun z40 =>
    (gchk z40 5 (some z31.1)).bind fun b43 =>
    gcat (fX5_read E b43 z40) (fun z43 =>
      (gpR E z43.2 1 1 (some t) 4 z43.1).bind fun G46 =>
      (gpZ E G46 1 1 (some t) 13 0).bind fun G51 =>
      (gpZ E G51 1 1 (some t) 18 0).bind fun G56 =>
      (gpZ E G56 1 1 (some t) 21 0).bind fun G61 =>
      some (.inl (0, G61)))
    (fun y => if y.1 = 6 then (
      (grI y.2.2 6 6 (some y.2.1) 7).bind fun x69 =>
      (gpI E y.2.2 1 1 (some t) 11 x69).bind fun G72 =>
      (grI G72 6 6 (some y.2.1) 6).bind fun x76 =>
      some (.inl (x76, G72))) else none))
  (fun y => some (.inr y))
def fX1_text_b16 (E : g_E) (t : Nat) (v1 : Int32) (G : g_G) : Option ((Int32 × g_G) ⊕ gX) :=
  fX1_text_b17 E t v1 0 G
def fX1_text (E : g_E) (t : Nat) (v1 : Int32) (G : g_G) : Option ((Int32 × g_G) ⊕ gX) :=
  if v1 < 0 then (
    fX1_text_b16 E t v1 G)
  else (
    (grI G 1 1 (some t) 10).bind fun x6 =>
    if x6 < v1 then (
      fX1_text_b16 E t v1 G)
    else (
      fX1_text_b17 E t v1 1 G))
def fX0_could (E : g_E) (v0 : Option Nat) (v1 : Int32) (v2 : Int32) (v3 : Option Nat) (G : g_G) : Option ((Int32 × g_G) ⊕ gX) :=
  (gchk G 1 v0).bind fun b5 =>
  gcat (fX1_could E b5 v1 v2 G) (fun z5 =>
    (gsaL E z5.2 v3 0 (Int32.toInt64 z5.1)).bind fun G9 =>
    some (.inl (0, G9)))
  (fun y => if y.1 = 22 then (
    some (.inl (1, y.2.2))) else none)
def fX0_ending (E : g_E) (v0 : Option Nat) (v1 : Int32) (v2 : Int32) (v3 : Option Nat) (G : g_G) : Option ((Int32 × g_G) ⊕ gX) :=
  (gchk G 1 v0).bind fun b5 =>
  gcat (fX1_ending E b5 v1 v2 G) (fun z5 =>
    (gsaL E z5.2 v3 0 (Int32.toInt64 z5.1)).bind fun G9 =>
    some (.inl (0, G9)))
  (fun y => if y.1 = 22 then (
    some (.inl (1, y.2.2))) else none)
def fX0_endings (E : g_E) (v0 : Option Nat) (v1 : Int32) (v2 : Option Nat) (G : g_G) : Option ((Int32 × g_G) ⊕ gX) :=
  (gchk G 1 v0).bind fun b4 =>
  gcat (fX1_endings E b4 v1 G) (fun z4 =>
    (gsaL E z4.2 v2 0 (Int32.toInt64 z4.1)).bind fun G8 =>
    some (.inl (0, G8)))
  (fun y => if y.1 = 22 then (
    some (.inl (1, y.2.2))) else none)
def fX0_text (E : g_E) (v0 : Option Nat) (v1 : Int32) (v2 : Option Nat) (G : g_G) : Option ((Int32 × g_G) ⊕ gX) :=
  (gchk G 1 v0).bind fun b4 =>
  gcat (fX1_text E b4 v1 G) (fun z4 =>
    (gsaL E z4.2 v2 0 (Int32.toInt64 z4.1)).bind fun G8 =>
    some (.inl (0, G8)))
  (fun y => if y.1 = 21 then (
    some (.inl (1, y.2.2))) else none)
def fL_law_b1090 (E : g_E) (k23 : (Option Nat) → (Option Nat) → (Option Nat) → (Option Nat) → Int32 → g_G → Option (Int32 × g_G)) (v0 : Option Nat) (v1 : Option Nat) (v2 : Option Nat) (v3 : Option Nat) (v4 : Int32) (G : g_G) : Option (Int32 × g_G) :=
  k23 v0 v1 v2 v3 (v4 + 6) G
def fL_law_b1087 (E : g_E) (k23 : (Option Nat) → (Option Nat) → (Option Nat) → (Option Nat) → Int32 → g_G → Option (Int32 × g_G)) (v0 : Option Nat) (v1 : Option Nat) (v2 : Option Nat) (v3 : Option Nat) (v4 : Int32) (G : g_G) : Option (Int32 × g_G) :=
  fL_law_b1090 E k23 v0 v1 v2 v3 v4 G
def fL_law_b1031 (E : g_E) (k23 : (Option Nat) → (Option Nat) → (Option Nat) → (Option Nat) → Int32 → g_G → Option (Int32 × g_G)) (v0 : Option Nat) (v1 : Option Nat) (v2 : Option Nat) (v3 : Option Nat) (v4 : Int32) (G : g_G) : Option (Int32 × g_G) :=
  fL_law_b1090 E k23 v0 v1 v2 v3 v4 G
def fL_law_b975 (E : g_E) (k23 : (Option Nat) → (Option Nat) → (Option Nat) → (Option Nat) → Int32 → g_G → Option (Int32 × g_G)) (v0 : Option Nat) (v1 : Option Nat) (v2 : Option Nat) (v3 : Option Nat) (v4 : Int32) (G : g_G) : Option (Int32 × g_G) :=
  fL_law_b1090 E k23 v0 v1 v2 v3 v4 G
def fL_law_b919 (E : g_E) (k23 : (Option Nat) → (Option Nat) → (Option Nat) → (Option Nat) → Int32 → g_G → Option (Int32 × g_G)) (v0 : Option Nat) (v1 : Option Nat) (v2 : Option Nat) (v3 : Option Nat) (v4 : Int32) (G : g_G) : Option (Int32 × g_G) :=
  fL_law_b1090 E k23 v0 v1 v2 v3 v4 G
def fL_law_b851 (E : g_E) (k23 : (Option Nat) → (Option Nat) → (Option Nat) → (Option Nat) → Int32 → g_G → Option (Int32 × g_G)) (v0 : Option Nat) (v1 : Option Nat) (v2 : Option Nat) (v3 : Option Nat) (v4 : Int32) (G : g_G) : Option (Int32 × g_G) :=
  fL_law_b1090 E k23 v0 v1 v2 v3 v4 G
def fL_law_b751 (E : g_E) (k23 : (Option Nat) → (Option Nat) → (Option Nat) → (Option Nat) → Int32 → g_G → Option (Int32 × g_G)) (v0 : Option Nat) (v1 : Option Nat) (v2 : Option Nat) (v3 : Option Nat) (v4 : Int32) (G : g_G) : Option (Int32 × g_G) :=
  fL_law_b1090 E k23 v0 v1 v2 v3 v4 G
def fL_law_b745 (E : g_E) (k23 : (Option Nat) → (Option Nat) → (Option Nat) → (Option Nat) → Int32 → g_G → Option (Int32 × g_G)) (v0 : Option Nat) (v1 : Option Nat) (v2 : Option Nat) (v3 : Option Nat) (v4 : Int32) (s0 : Int64) (s1 : Int64) (G : g_G) : Option (Int32 × g_G) :=
  if (lg_cmp s0 s1) = 0 then (
    fL_law_b751 E k23 v0 v1 v2 v3 v4 G)
  else (
    if (0 : Int32) = 0 ∨ (0 : Int32) = 1 then some (0, G) else none)
def fL_law_b662 (E : g_E) (k23 : (Option Nat) → (Option Nat) → (Option Nat) → (Option Nat) → Int32 → g_G → Option (Int32 × g_G)) (v0 : Option Nat) (v1 : Option Nat) (v2 : Option Nat) (v3 : Option Nat) (v4 : Int32) (G : g_G) : Option (Int32 × g_G) :=
  fL_law_b1090 E k23 v0 v1 v2 v3 v4 G
def fL_law_b581 (E : g_E) (k23 : (Option Nat) → (Option Nat) → (Option Nat) → (Option Nat) → Int32 → g_G → Option (Int32 × g_G)) (v0 : Option Nat) (v1 : Option Nat) (v2 : Option Nat) (v3 : Option Nat) (v4 : Int32) (G : g_G) : Option (Int32 × g_G) :=
  fL_law_b1090 E k23 v0 v1 v2 v3 v4 G
def fL_law_b513 (E : g_E) (k23 : (Option Nat) → (Option Nat) → (Option Nat) → (Option Nat) → Int32 → g_G → Option (Int32 × g_G)) (v0 : Option Nat) (v1 : Option Nat) (v2 : Option Nat) (v3 : Option Nat) (v4 : Int32) (G : g_G) : Option (Int32 × g_G) :=
  fL_law_b1090 E k23 v0 v1 v2 v3 v4 G
def fL_law_b444 (E : g_E) (k23 : (Option Nat) → (Option Nat) → (Option Nat) → (Option Nat) → Int32 → g_G → Option (Int32 × g_G)) (v0 : Option Nat) (v1 : Option Nat) (v2 : Option Nat) (v3 : Option Nat) (v4 : Int32) (G : g_G) : Option (Int32 × g_G) :=
  fL_law_b1090 E k23 v0 v1 v2 v3 v4 G
def fL_law_b388 (E : g_E) (k23 : (Option Nat) → (Option Nat) → (Option Nat) → (Option Nat) → Int32 → g_G → Option (Int32 × g_G)) (v0 : Option Nat) (v1 : Option Nat) (v2 : Option Nat) (v3 : Option Nat) (v4 : Int32) (G : g_G) : Option (Int32 × g_G) :=
  fL_law_b1090 E k23 v0 v1 v2 v3 v4 G
def fL_law_b258 (E : g_E) (k23 : (Option Nat) → (Option Nat) → (Option Nat) → (Option Nat) → Int32 → g_G → Option (Int32 × g_G)) (v0 : Option Nat) (v1 : Option Nat) (v2 : Option Nat) (v3 : Option Nat) (v4 : Int32) (G : g_G) : Option (Int32 × g_G) :=
  fL_law_b1090 E k23 v0 v1 v2 v3 v4 G
def fL_law_b23 (E : g_E) : Nat → (Option Nat) → (Option Nat) → (Option Nat) → (Option Nat) → Int32 → g_G → Option (Int32 × g_G)
  | 0, _, _, _, _, _, _ => none
  | n + 1, v0, v1, v2, v3, v4, G =>
    (galen G v0).bind fun x26 =>
    if (x26 - 6) < v4 then (
      if (1 : Int32) = 0 ∨ (1 : Int32) = 1 then some (1, G) else none)
    else (
      (gaI G 100 v0 v4).bind fun x36 =>
      if (x36 &&& 31) = 0 then (
        (gaI G 100 v0 (v4 + 1)).bind fun x138 =>
        (gaI G 100 v0 (v4 + 2)).bind fun x144 =>
        (gaI G 100 v0 (v4 + 3)).bind fun x150 =>
        (gaI G 100 v0 (v4 + 4)).bind fun x156 =>
        (gaI G 100 v0 (v4 + 5)).bind fun x162 =>
        (gchk G 1 v1).bind fun b163 =>
        (fX1_feed E b163 x138 x144 x150 x156 x162 G).bind fun z163 =>
        (gaI z163.2 100 v0 (v4 + 1)).bind fun x172 =>
        (gaI z163.2 100 v0 (v4 + 2)).bind fun x178 =>
        (gaI z163.2 100 v0 (v4 + 3)).bind fun x184 =>
        (gaI z163.2 100 v0 (v4 + 4)).bind fun x190 =>
        (gaI z163.2 100 v0 (v4 + 5)).bind fun x196 =>
        (gchk z163.2 4 v2).bind fun b197 =>
        (fX4_feed E b197 x172 x178 x184 x190 x196 z163.2).bind fun z197 =>
        if z163.1 = z197.1 then (
          fL_law_b1090 E (fL_law_b23 E n) v0 v1 v2 v3 v4 z197.2)
        else (
          if (0 : Int32) = 0 ∨ (0 : Int32) = 1 then some (0, z197.2) else none))
      else
      if (x36 &&& 31) = 1 then (
        (gaI G 100 v0 (v4 + 1)).bind fun x211 =>
        gcat (fX0_text E v1 x211 v3 G) (fun z213 =>
          (gaI z213.2 100 v0 (v4 + 1)).bind fun x224 =>
          (gchk z213.2 4 v2).bind fun b225 =>
          (fX4_text E b225 x224 z213.2).bind fun z225 =>
          (gchk z225.2 4 v2).bind fun b231 =>
          (fX4_thrown E b231 z225.2).bind fun z231 =>
          if z231.1 = z213.1 then (
            if ¬ z213.1 = 0 then (
              fL_law_b258 E (fL_law_b23 E n) v0 v1 v2 v3 v4 z231.2)
            else (
              (gaL z231.2 v3 0).bind fun x248 =>
              if (lg_cmp x248 (Int32.toInt64 z225.1)) = 0 then (
                fL_law_b258 E (fL_law_b23 E n) v0 v1 v2 v3 v4 z231.2)
              else (
                if (0 : Int32) = 0 ∨ (0 : Int32) = 1 then some (0, z231.2) else none)))
          else (
            if (0 : Int32) = 0 ∨ (0 : Int32) = 1 then some (0, z231.2) else none))
        (fun _ => none))
      else
      if (x36 &&& 31) = 2 then (
        (gchk G 1 v1).bind fun b262 =>
        (fX1_fault E b262 G).bind fun z262 =>
        (gchk z262.2 4 v2).bind fun b266 =>
        (fX4_fault E b266 z262.2).bind fun z266 =>
        if z262.1 = z266.1 then (
          fL_law_b1090 E (fL_law_b23 E n) v0 v1 v2 v3 v4 z266.2)
        else (
          if (0 : Int32) = 0 ∨ (0 : Int32) = 1 then some (0, z266.2) else none))
      else
      if (x36 &&& 31) = 3 then (
        (gaI G 100 v0 (v4 + 1)).bind fun x280 =>
        (gaI G 100 v0 (v4 + 2)).bind fun x286 =>
        (gaI G 100 v0 (v4 + 3)).bind fun x292 =>
        (gaI G 100 v0 (v4 + 4)).bind fun x298 =>
        (gchk G 1 v1).bind fun b299 =>
        (fX1_world E b299 x280 x286 x292 x298 G).bind fun z299 =>
        (gaI z299.2 100 v0 (v4 + 1)).bind fun x308 =>
        (gaI z299.2 100 v0 (v4 + 2)).bind fun x314 =>
        (gaI z299.2 100 v0 (v4 + 3)).bind fun x320 =>
        (gaI z299.2 100 v0 (v4 + 4)).bind fun x326 =>
        (gchk z299.2 4 v2).bind fun b327 =>
        (fX4_world E b327 x308 x314 x320 x326 z299.2).bind fun z327 =>
        if z299.1 = z327.1 then (
          fL_law_b1090 E (fL_law_b23 E n) v0 v1 v2 v3 v4 z327.2)
        else (
          if (0 : Int32) = 0 ∨ (0 : Int32) = 1 then some (0, z327.2) else none))
      else
      if (x36 &&& 31) = 4 then (
        (gaI G 100 v0 (v4 + 1)).bind fun x341 =>
        gcat (fX0_count E v1 x341 v3 G) (fun z343 =>
          (gaI z343.2 100 v0 (v4 + 1)).bind fun x354 =>
          (gchk z343.2 4 v2).bind fun b355 =>
          (fX4_count E b355 x354 z343.2).bind fun z355 =>
          (gchk z355.2 4 v2).bind fun b361 =>
          (fX4_thrown E b361 z355.2).bind fun z361 =>
          if z361.1 = z343.1 then (
            if ¬ z343.1 = 0 then (
              fL_law_b388 E (fL_law_b23 E n) v0 v1 v2 v3 v4 z361.2)
            else (
              (gaL z361.2 v3 0).bind fun x378 =>
              if (lg_cmp x378 (Int32.toInt64 z355.1)) = 0 then (
                fL_law_b388 E (fL_law_b23 E n) v0 v1 v2 v3 v4 z361.2)
              else (
                if (0 : Int32) = 0 ∨ (0 : Int32) = 1 then some (0, z361.2) else none)))
          else (
            if (0 : Int32) = 0 ∨ (0 : Int32) = 1 then some (0, z361.2) else none))
        (fun _ => none))
      else
      if (x36 &&& 31) = 5 then (
        (gaI G 100 v0 (v4 + 1)).bind fun x397 =>
        gcat (fX0_step E v1 x397 v3 G) (fun z399 =>
          (gaI z399.2 100 v0 (v4 + 1)).bind fun x410 =>
          (gchk z399.2 4 v2).bind fun b411 =>
          (fX4_step E b411 x410 z399.2).bind fun z411 =>
          (gchk z411.2 4 v2).bind fun b417 =>
          (fX4_thrown E b417 z411.2).bind fun z417 =>
          if z417.1 = z399.1 then (
            if ¬ z399.1 = 0 then (
              fL_law_b444 E (fL_law_b23 E n) v0 v1 v2 v3 v4 z417.2)
            else (
              (gaL z417.2 v3 0).bind fun x434 =>
              if (lg_cmp x434 (Int32.toInt64 z411.1)) = 0 then (
                fL_law_b444 E (fL_law_b23 E n) v0 v1 v2 v3 v4 z417.2)
              else (
                if (0 : Int32) = 0 ∨ (0 : Int32) = 1 then some (0, z417.2) else none)))
          else (
            if (0 : Int32) = 0 ∨ (0 : Int32) = 1 then some (0, z417.2) else none))
        (fun _ => none))
      else
      if (x36 &&& 31) = 6 then (
        (gchk G 1 v1).bind fun b448 =>
        (fX1_reached E b448 G).bind fun z448 =>
        (gchk z448.2 4 v2).bind fun b452 =>
        (fX4_reached E b452 z448.2).bind fun z452 =>
        if z448.1 = z452.1 then (
          fL_law_b1090 E (fL_law_b23 E n) v0 v1 v2 v3 v4 z452.2)
        else (
          if (0 : Int32) = 0 ∨ (0 : Int32) = 1 then some (0, z452.2) else none))
      else
      if (x36 &&& 31) = 7 then (
        (gaI G 100 v0 (v4 + 1)).bind fun x466 =>
        gcat (fX0_endings E v1 x466 v3 G) (fun z468 =>
          (gaI z468.2 100 v0 (v4 + 1)).bind fun x479 =>
          (gchk z468.2 4 v2).bind fun b480 =>
          (fX4_endings E b480 x479 z468.2).bind fun z480 =>
          (gchk z480.2 4 v2).bind fun b486 =>
          (fX4_thrown E b486 z480.2).bind fun z486 =>
          if z486.1 = z468.1 then (
            if ¬ z468.1 = 0 then (
              fL_law_b513 E (fL_law_b23 E n) v0 v1 v2 v3 v4 z486.2)
            else (
              (gaL z486.2 v3 0).bind fun x503 =>
              if (lg_cmp x503 (Int32.toInt64 z480.1)) = 0 then (
                fL_law_b513 E (fL_law_b23 E n) v0 v1 v2 v3 v4 z486.2)
              else (
                if (0 : Int32) = 0 ∨ (0 : Int32) = 1 then some (0, z486.2) else none)))
          else (
            if (0 : Int32) = 0 ∨ (0 : Int32) = 1 then some (0, z486.2) else none))
        (fun _ => none))
      else
      if (x36 &&& 31) = 8 then (
        (gaI G 100 v0 (v4 + 1)).bind fun x522 =>
        (gaI G 100 v0 (v4 + 2)).bind fun x528 =>
        gcat (fX0_ending E v1 x522 x528 v3 G) (fun z530 =>
          (gaI z530.2 100 v0 (v4 + 1)).bind fun x541 =>
          (gaI z530.2 100 v0 (v4 + 2)).bind fun x547 =>
          (gchk z530.2 4 v2).bind fun b548 =>
          (fX4_ending E b548 x541 x547 z530.2).bind fun z548 =>
          (gchk z548.2 4 v2).bind fun b554 =>
          (fX4_thrown E b554 z548.2).bind fun z554 =>
          if z554.1 = z530.1 then (
            if ¬ z530.1 = 0 then (
              fL_law_b581 E (fL_law_b23 E n) v0 v1 v2 v3 v4 z554.2)
            else (
              (gaL z554.2 v3 0).bind fun x571 =>
              if (lg_cmp x571 (Int32.toInt64 z548.1)) = 0 then (
                fL_law_b581 E (fL_law_b23 E n) v0 v1 v2 v3 v4 z554.2)
              else (
                if (0 : Int32) = 0 ∨ (0 : Int32) = 1 then some (0, z554.2) else none)))
          else (
            if (0 : Int32) = 0 ∨ (0 : Int32) = 1 then some (0, z554.2) else none))
        (fun _ => none))
      else
      if (x36 &&& 31) = 9 then (
        (gchk G 1 v1).bind fun b585 =>
        (fX1_differs E b585 G).bind fun z585 =>
        (gchk z585.2 4 v2).bind fun b589 =>
        (fX4_differs E b589 z585.2).bind fun z589 =>
        if z585.1 = z589.1 then (
          fL_law_b1090 E (fL_law_b23 E n) v0 v1 v2 v3 v4 z589.2)
        else (
          if (0 : Int32) = 0 ∨ (0 : Int32) = 1 then some (0, z589.2) else none))
      else
      if (x36 &&& 31) = 10 then (
        (gaI G 100 v0 (v4 + 1)).bind fun x603 =>
        (gaI G 100 v0 (v4 + 2)).bind fun x609 =>
        gcat (fX0_could E v1 x603 x609 v3 G) (fun z611 =>
          (gaI z611.2 100 v0 (v4 + 1)).bind fun x622 =>
          (gaI z611.2 100 v0 (v4 + 2)).bind fun x628 =>
          (gchk z611.2 4 v2).bind fun b629 =>
          (fX4_could E b629 x622 x628 z611.2).bind fun z629 =>
          (gchk z629.2 4 v2).bind fun b635 =>
          (fX4_thrown E b635 z629.2).bind fun z635 =>
          if z635.1 = z611.1 then (
            if ¬ z611.1 = 0 then (
              fL_law_b662 E (fL_law_b23 E n) v0 v1 v2 v3 v4 z635.2)
            else (
              (gaL z635.2 v3 0).bind fun x652 =>
              if (lg_cmp x652 (Int32.toInt64 z629.1)) = 0 then (
                fL_law_b662 E (fL_law_b23 E n) v0 v1 v2 v3 v4 z635.2)
              else (
                if (0 : Int32) = 0 ∨ (0 : Int32) = 1 then some (0, z635.2) else none)))
          else (
            if (0 : Int32) = 0 ∨ (0 : Int32) = 1 then some (0, z635.2) else none))
        (fun _ => none))
      else
      if (x36 &&& 31) = 11 then (
        (gchk G 1 v1).bind fun b666 =>
        (fX1_needs E b666 G).bind fun z666 =>
        (gchk z666.2 4 v2).bind fun b670 =>
        (fX4_needs E b670 z666.2).bind fun z670 =>
        if z666.1 = z670.1 then (
          fL_law_b1090 E (fL_law_b23 E n) v0 v1 v2 v3 v4 z670.2)
        else (
          if (0 : Int32) = 0 ∨ (0 : Int32) = 1 then some (0, z670.2) else none))
      else
      if (x36 &&& 31) = 12 then (
        (gchk G 1 v1).bind fun b679 =>
        (fX1_cut E b679 G).bind fun z679 =>
        (gchk z679.2 4 v2).bind fun b683 =>
        (fX4_cut E b683 z679.2).bind fun z683 =>
        if z679.1 = z683.1 then (
          fL_law_b1090 E (fL_law_b23 E n) v0 v1 v2 v3 v4 z683.2)
        else (
          if (0 : Int32) = 0 ∨ (0 : Int32) = 1 then some (0, z683.2) else none))
      else
      if (x36 &&& 31) = 13 then (
        (gaI G 100 v0 (v4 + 1)).bind fun x697 =>
        gcat (fX0_left E v1 x697 v3 G) (fun z699 =>
          (gaI z699.2 100 v0 (v4 + 1)).bind fun x710 =>
          (gchk z699.2 4 v2).bind fun b711 =>
          (fX4_left E b711 x710 z699.2).bind fun z711 =>
          (gchk z711.2 4 v2).bind fun b717 =>
          (fX4_thrown E b717 z711.2).bind fun z717 =>
          if z717.1 = z699.1 then (
            if ¬ z699.1 = 0 then (
              fL_law_b751 E (fL_law_b23 E n) v0 v1 v2 v3 v4 z717.2)
            else (
              (gaL z717.2 v3 0).bind fun x734 =>
              if z711.1 = 0 then (
                fL_law_b745 E (fL_law_b23 E n) v0 v1 v2 v3 v4 x734 0 z717.2)
              else (
                fL_law_b745 E (fL_law_b23 E n) v0 v1 v2 v3 v4 x734 1 z717.2)))
          else (
            if (0 : Int32) = 0 ∨ (0 : Int32) = 1 then some (0, z717.2) else none))
        (fun _ => none))
      else
      if (x36 &&& 31) = 14 then (
        (gaI G 100 v0 (v4 + 1)).bind fun x760 =>
        (gaI G 100 v0 (v4 + 2)).bind fun x766 =>
        (gaI G 100 v0 (v4 + 3)).bind fun x776 =>
        gcat (fX0_play E v1 x760 (((Int32.toInt64 x766) <<< (Int32.toInt64 32 &&& 63)) ||| ((Int32.toInt64 x776) &&& 4294967295)) v3 G) (fun z784 =>
          (gaI z784.2 100 v0 (v4 + 1)).bind fun x795 =>
          (gaI z784.2 100 v0 (v4 + 2)).bind fun x801 =>
          (gaI z784.2 100 v0 (v4 + 3)).bind fun x811 =>
          (gchk z784.2 4 v2).bind fun b818 =>
          (fX4_play E b818 x795 (((Int32.toInt64 x801) <<< (Int32.toInt64 32 &&& 63)) ||| ((Int32.toInt64 x811) &&& 4294967295)) z784.2).bind fun z818 =>
          (gchk z818.2 4 v2).bind fun b824 =>
          (fX4_thrown E b824 z818.2).bind fun z824 =>
          if z824.1 = z784.1 then (
            if ¬ z784.1 = 0 then (
              fL_law_b851 E (fL_law_b23 E n) v0 v1 v2 v3 v4 z824.2)
            else (
              (gaL z824.2 v3 0).bind fun x841 =>
              if (lg_cmp x841 (Int32.toInt64 z818.1)) = 0 then (
                fL_law_b851 E (fL_law_b23 E n) v0 v1 v2 v3 v4 z824.2)
              else (
                if (0 : Int32) = 0 ∨ (0 : Int32) = 1 then some (0, z824.2) else none)))
          else (
            if (0 : Int32) = 0 ∨ (0 : Int32) = 1 then some (0, z824.2) else none))
        (fun _ => none))
      else
      if (x36 &&& 31) = 15 then (
        (gaI G 100 v0 (v4 + 1)).bind fun x860 =>
        (gaI G 100 v0 (v4 + 2)).bind fun x866 =>
        gcat (fX0_of E v1 x860 x866 v3 G) (fun z868 =>
          (gaI z868.2 100 v0 (v4 + 1)).bind fun x879 =>
          (gaI z868.2 100 v0 (v4 + 2)).bind fun x885 =>
          (gchk z868.2 4 v2).bind fun b886 =>
          (fX4_of E b886 x879 x885 z868.2).bind fun z886 =>
          (gchk z886.2 4 v2).bind fun b892 =>
          (fX4_thrown E b892 z886.2).bind fun z892 =>
          if z892.1 = z868.1 then (
            if ¬ z868.1 = 0 then (
              fL_law_b919 E (fL_law_b23 E n) v0 v1 v2 v3 v4 z892.2)
            else (
              (gaL z892.2 v3 0).bind fun x909 =>
              if (lg_cmp x909 (Int32.toInt64 z886.1)) = 0 then (
                fL_law_b919 E (fL_law_b23 E n) v0 v1 v2 v3 v4 z892.2)
              else (
                if (0 : Int32) = 0 ∨ (0 : Int32) = 1 then some (0, z892.2) else none)))
          else (
            if (0 : Int32) = 0 ∨ (0 : Int32) = 1 then some (0, z892.2) else none))
        (fun _ => none))
      else
      if (x36 &&& 31) = 16 then (
        (gaI G 100 v0 (v4 + 1)).bind fun x928 =>
        gcat (fX0_ring E v1 x928 v3 G) (fun z930 =>
          (gaI z930.2 100 v0 (v4 + 1)).bind fun x941 =>
          (gchk z930.2 4 v2).bind fun b942 =>
          (fX4_ring E b942 x941 z930.2).bind fun z942 =>
          (gchk z942.2 4 v2).bind fun b948 =>
          (fX4_thrown E b948 z942.2).bind fun z948 =>
          if z948.1 = z930.1 then (
            if ¬ z930.1 = 0 then (
              fL_law_b975 E (fL_law_b23 E n) v0 v1 v2 v3 v4 z948.2)
            else (
              (gaL z948.2 v3 0).bind fun x965 =>
              if (lg_cmp x965 (Int32.toInt64 z942.1)) = 0 then (
                fL_law_b975 E (fL_law_b23 E n) v0 v1 v2 v3 v4 z948.2)
              else (
                if (0 : Int32) = 0 ∨ (0 : Int32) = 1 then some (0, z948.2) else none)))
          else (
            if (0 : Int32) = 0 ∨ (0 : Int32) = 1 then some (0, z948.2) else none))
        (fun _ => none))
      else
      if (x36 &&& 31) = 17 then (
        (gaI G 100 v0 (v4 + 1)).bind fun x984 =>
        gcat (fX0_chose E v1 x984 v3 G) (fun z986 =>
          (gaI z986.2 100 v0 (v4 + 1)).bind fun x997 =>
          (gchk z986.2 4 v2).bind fun b998 =>
          (fX4_chose E b998 x997 z986.2).bind fun z998 =>
          (gchk z998.2 4 v2).bind fun b1004 =>
          (fX4_thrown E b1004 z998.2).bind fun z1004 =>
          if z1004.1 = z986.1 then (
            if ¬ z986.1 = 0 then (
              fL_law_b1031 E (fL_law_b23 E n) v0 v1 v2 v3 v4 z1004.2)
            else (
              (gaL z1004.2 v3 0).bind fun x1021 =>
              if (lg_cmp x1021 (Int32.toInt64 z998.1)) = 0 then (
                fL_law_b1031 E (fL_law_b23 E n) v0 v1 v2 v3 v4 z1004.2)
              else (
                if (0 : Int32) = 0 ∨ (0 : Int32) = 1 then some (0, z1004.2) else none)))
          else (
            if (0 : Int32) = 0 ∨ (0 : Int32) = 1 then some (0, z1004.2) else none))
        (fun _ => none))
      else
      if (x36 &&& 31) = 18 then (
        (gaI G 100 v0 (v4 + 1)).bind fun x1040 =>
        gcat (fX0_least E v1 x1040 v3 G) (fun z1042 =>
          (gaI z1042.2 100 v0 (v4 + 1)).bind fun x1053 =>
          (gchk z1042.2 4 v2).bind fun b1054 =>
          (fX4_least E b1054 x1053 z1042.2).bind fun z1054 =>
          (gchk z1054.2 4 v2).bind fun b1060 =>
          (fX4_thrown E b1060 z1054.2).bind fun z1060 =>
          if z1060.1 = z1042.1 then (
            if ¬ z1042.1 = 0 then (
              fL_law_b1087 E (fL_law_b23 E n) v0 v1 v2 v3 v4 z1060.2)
            else (
              (gaL z1060.2 v3 0).bind fun x1077 =>
              if (lg_cmp x1077 (Int32.toInt64 z1054.1)) = 0 then (
                fL_law_b1087 E (fL_law_b23 E n) v0 v1 v2 v3 v4 z1060.2)
              else (
                if (0 : Int32) = 0 ∨ (0 : Int32) = 1 then some (0, z1060.2) else none)))
          else (
            if (0 : Int32) = 0 ∨ (0 : Int32) = 1 then some (0, z1060.2) else none))
        (fun _ => none))
      else
      (
        fL_law_b1090 E (fL_law_b23 E n) v0 v1 v2 v3 v4 G))
def fL_law (E : g_E) (v0 : Option Nat) (G : g_G) : Option (Int32 × g_G) :=
  (gnewO E G 1 33).bind fun z0 =>
  (fX1_init E z0.1 z0.2).bind fun z4 =>
  (gnewO E z4 4 70).bind fun z8 =>
  (fX4_init E z8.1 z8.2).bind fun z12 =>
  (gnewA E z12 110 1).bind fun z17 =>
  fL_law_b23 E gFU v0 (some z0.1) (some z8.1) (some z17.1) 0 z17.2
