/-! THE PICTURE OF THE HEAP: one value G for all cells that the proof knows; ops on it; what it says of a heap -/
set_option maxRecDepth 100000
abbrev g_G : Type := Nat × Nat × (Nat → Nat) × (Nat → Nat) × (Nat → Nat → Int32) × (Nat → Nat → Int64) × (Nat → Nat → Option Nat)
/-- how many cells; how many slots in them -/
def gsz (G : g_G) : Nat := G.1
def gsl (G : g_G) : Nat := G.2.1
/-- of a cell: its kind (0: nothing is known), its length; its contents as ints, longs, references -/
def gcl (G : g_G) : Nat → Nat := G.2.2.1
def gln (G : g_G) : Nat → Nat := G.2.2.2.1
def gI (G : g_G) : Nat → Nat → Int32 := G.2.2.2.2.1
def gL (G : g_G) : Nat → Nat → Int64 := G.2.2.2.2.2.1
def gR (G : g_G) : Nat → Nat → Option Nat := G.2.2.2.2.2.2
def g2 {α : Type} (f : Nat → Nat → α) (a k : Nat) (v : α) : Nat → Nat → α := fun b j => if b = a ∧ j = k then v else f b j
def gsI (G : g_G) (a k : Nat) (v : Int32) : g_G := (gsz G, gsl G, gcl G, gln G, g2 (gI G) a k v, gL G, gR G)
def gsL (G : g_G) (a k : Nat) (v : Int64) : g_G := (gsz G, gsl G, gcl G, gln G, gI G, g2 (gL G) a k v, gR G)
def gsR (G : g_G) (a k : Nat) (v : Option Nat) : g_G := (gsz G, gsl G, gcl G, gln G, gI G, gL G, g2 (gR G) a k v)
/-- a new cell of kind c with n slots, all of them zero -/
def gnew (G : g_G) (c n : Nat) : g_G := (gsz G + 1, gsl G + n, va_up (gcl G) (gsz G) c, va_up (gln G) (gsz G) n, va_up (gI G) (gsz G) (fun _ => 0), va_up (gL G) (gsz G) (fun _ => 0), va_up (gR G) (gsz G) (fun _ => none))
/-- the surroundings: where the own cells begin; the limits; addresses of what was there before -/
abbrev g_E : Type := Nat × Nat × Nat × (Nat → Nat)
def gB (E : g_E) : Nat := E.1
def gMc (E : g_E) : Nat := E.2.1
def gMs (E : g_E) : Nat := E.2.2.1
def gA (E : g_E) : Nat → Nat := E.2.2.2
/-! ops: none where the machine would do something else than go on -/
def grI (G : g_G) (lo hi : Nat) (r : Option Nat) (k : Nat) : Option Int32 := r.bind fun a => if lo ≤ gcl G a ∧ gcl G a ≤ hi then some (gI G a k) else none
def grR (G : g_G) (lo hi : Nat) (r : Option Nat) (k : Nat) : Option (Option Nat) := r.bind fun a => if lo ≤ gcl G a ∧ gcl G a ≤ hi then some (gR G a k) else none
def gpI (E : g_E) (G : g_G) (lo hi : Nat) (r : Option Nat) (k : Nat) (v : Int32) : Option g_G := r.bind fun a => if gB E ≤ a ∧ lo ≤ gcl G a ∧ gcl G a ≤ hi then some (gsI G a k v) else none
def gpZ (E : g_E) (G : g_G) (lo hi : Nat) (r : Option Nat) (k : Nat) (v : Int32) : Option g_G := r.bind fun a => if (v = 0 ∨ v = 1) ∧ gB E ≤ a ∧ lo ≤ gcl G a ∧ gcl G a ≤ hi then some (gsI G a k v) else none
def gpB (E : g_E) (G : g_G) (lo hi : Nat) (r : Option Nat) (k : Nat) (v : Int32) : Option g_G := r.bind fun a => if v.toInt8.toInt32 = v ∧ gB E ≤ a ∧ lo ≤ gcl G a ∧ gcl G a ≤ hi then some (gsI G a k v) else none
def gpC (E : g_E) (G : g_G) (lo hi : Nat) (r : Option Nat) (k : Nat) (v : Int32) : Option g_G := r.bind fun a => if v.toUInt32.toUInt16.toUInt32.toInt32 = v ∧ gB E ≤ a ∧ lo ≤ gcl G a ∧ gcl G a ≤ hi then some (gsI G a k v) else none
def gpR (E : g_E) (G : g_G) (lo hi : Nat) (r : Option Nat) (k : Nat) (v : Option Nat) : Option g_G := r.bind fun a => if gB E ≤ a ∧ lo ≤ gcl G a ∧ gcl G a ≤ hi then some (gsR G a k v) else none
/-- arrays: kinds 100 int, 101 byte, 102 boolean, 110 long, 120 up of references -/
def gaI (G : g_G) (c : Nat) (r : Option Nat) (i : Int32) : Option Int32 := r.bind fun a => if gcl G a = c ∧ ¬ (i < 0 ∨ gln G a ≤ i.toNatClampNeg) then some (gI G a i.toNatClampNeg) else none
def gaL (G : g_G) (r : Option Nat) (i : Int32) : Option Int64 := r.bind fun a => if gcl G a = 110 ∧ ¬ (i < 0 ∨ gln G a ≤ i.toNatClampNeg) then some (gL G a i.toNatClampNeg) else none
def gaR (G : g_G) (c : Nat) (r : Option Nat) (i : Int32) : Option (Option Nat) := r.bind fun a => if gcl G a = c ∧ ¬ (i < 0 ∨ gln G a ≤ i.toNatClampNeg) then some (gR G a i.toNatClampNeg) else none
def gsaI (E : g_E) (G : g_G) (r : Option Nat) (i v : Int32) : Option g_G := r.bind fun a => if gB E ≤ a ∧ gcl G a = 100 ∧ ¬ (i < 0 ∨ gln G a ≤ i.toNatClampNeg) then some (gsI G a i.toNatClampNeg v) else none
def gsaB (E : g_E) (G : g_G) (r : Option Nat) (i v : Int32) : Option g_G := r.bind fun a => if gB E ≤ a ∧ gcl G a = 101 ∧ ¬ (i < 0 ∨ gln G a ≤ i.toNatClampNeg) then some (gsI G a i.toNatClampNeg v.toInt8.toInt32) else none
def gsaZ (E : g_E) (G : g_G) (r : Option Nat) (i v : Int32) : Option g_G := r.bind fun a => if gB E ≤ a ∧ gcl G a = 102 ∧ ¬ (i < 0 ∨ gln G a ≤ i.toNatClampNeg) then some (gsI G a i.toNatClampNeg (v &&& 1)) else none
def gsaL (E : g_E) (G : g_G) (r : Option Nat) (i : Int32) (v : Int64) : Option g_G := r.bind fun a => if gB E ≤ a ∧ gcl G a = 110 ∧ ¬ (i < 0 ∨ gln G a ≤ i.toNatClampNeg) then some (gsL G a i.toNatClampNeg v) else none
/-- what may be stored in an array of references -/
def gasg (c d : Nat) : Bool := (c == 120 && Nat.ble 1 d && Nat.ble d 22) || (c == 121 && d == 3) || (c == 122 && Nat.ble 11 d && Nat.ble d 16) || (c == 123 && d == 19)
def gsaR (E : g_E) (G : g_G) (c : Nat) (r : Option Nat) (i : Int32) (v : Option Nat) : Option g_G := r.bind fun a => if gB E ≤ a ∧ gcl G a = c ∧ ¬ (i < 0 ∨ gln G a ≤ i.toNatClampNeg) ∧ v.all (fun b => gasg c (gcl G b)) = true then some (gsR G a i.toNatClampNeg v) else none
def galen (G : g_G) (r : Option Nat) : Option Int32 := r.bind fun a => if 100 ≤ gcl G a then some (Int32.ofNat (gln G a)) else none
def gnewO (E : g_E) (G : g_G) (c n : Nat) : Option (Nat × g_G) := if gsz G + 1 ≤ gMc E ∧ gsl G + n ≤ gMs E then some (gsz G, gnew G c n) else none
def gnewA (E : g_E) (G : g_G) (c : Nat) (n : Int32) : Option (Nat × g_G) := if ¬ n < 0 ∧ n.toNatClampNeg ≤ 67108864 ∧ gsz G + 1 ≤ gMc E ∧ gsl G + n.toNatClampNeg ≤ gMs E then some (gsz G, gnew G c n.toNatClampNeg) else none
/-- System.arraycopy between arrays of one kind, in bounds -/
def gcpy {α : Type} (f : Nat → Nat → α) (a b sp dp n : Nat) : Nat → Nat → α := fun x j => if x = b ∧ dp ≤ j ∧ j < dp + n then f a (sp + (j - dp)) else f x j
def gfit (G : g_G) (c a j : Nat) : Bool := if c = 101 then decide ((gI G a j).toInt8.toInt32 = gI G a j) else (gR G a j).all fun b => gasg 120 (gcl G b)
def gcopy (E : g_E) (G : g_G) (r : Option Nat) (i : Int32) (q : Option Nat) (j n : Int32) : Option g_G := r.bind fun a => q.bind fun b =>
  if gB E ≤ b ∧ (gcl G a = 101 ∨ gcl G a = 120) ∧ gcl G b = gcl G a ∧ ¬ i < 0 ∧ ¬ j < 0 ∧ ¬ n < 0 ∧ i.toNatClampNeg + n.toNatClampNeg ≤ gln G a ∧ j.toNatClampNeg + n.toNatClampNeg ≤ gln G b ∧ ∀ k, k < n.toNatClampNeg → gfit G (gcl G a) a (i.toNatClampNeg + k) = true
  then some (gsz G, gsl G, gcl G, gln G, gcpy (gI G) a b i.toNatClampNeg j.toNatClampNeg n.toNatClampNeg, gcpy (gL G) a b i.toNatClampNeg j.toNatClampNeg n.toNatClampNeg, gcpy (gR G) a b i.toNatClampNeg j.toNatClampNeg n.toNatClampNeg) else none
/-! the kinds of objects: 1 up to 22; of a field: ints 0, longs 1, references 2 -/
def gNm : Nat → String := fun c => match c with
  | 1 => RX1 | 2 => RX2 | 3 => RX3 | 4 => RX4 | 5 => RX5 | 6 => RX6 | 7 => RX18 | 8 => RX10 | 9 => RX11 | 10 => RX12
  | 11 => RX17 | 12 => RX14 | 13 => RX15 | 14 => RX16 | 15 => RX9 | 16 => RX13 | 17 => RJ2 | 18 => RJ8 | 19 => RJ9 | 20 => RJ17 | 21 => RJ6 | _ => RJ19
def gTb : Nat → u_T := fun c => match c with
  | 1 => TX1 | 2 => TX2 | 3 => TX3 | 4 => TX4 | 5 => TX5 | 6 => TX6 | 7 => TX18 | 8 => TX10 | 9 => TX11 | 10 => TX12
  | 11 => TX17 | 12 => TX14 | 13 => TX15 | 14 => TX16 | 15 => TX9 | 16 => TX13 | 17 => TJ2 | 18 => TJ8 | 19 => TJ9 | 20 => TJ17 | 21 => TJ6 | _ => TJ19
def gTy : Nat → Nat → FieldType := fun c => match c with
  | 1 => tyX1 | 2 => tyX2 | 3 => tyX3 | 4 => tyX4 | 5 => tyX5 | 6 => tyX6 | 7 => tyX18 | 8 => tyX10 | 9 => tyX11 | 10 => tyX12
  | 11 => tyX17 | 12 => tyX14 | 13 => tyX15 | 14 => tyX16 | 15 => tyX9 | 16 => tyX13 | 17 => tyJ2 | 18 => tyJ8 | 19 => tyJ9 | 20 => tyJ17 | 21 => tyJ6 | _ => tyJ19
def gNf : Nat → Nat := fun c => match c with
  | 1 => 33 | 2 => 3 | 3 => 13 | 4 => 70 | 5 => 14 | 6 => 8 | 7 => 4 | 8 => 1 | 9 => 2 | 10 => 1
  | 11 => 5 | 12 => 5 | 13 => 4 | 14 => 6 | 15 => 7 | 16 => 7 | 17 => 3 | 18 => 4 | 19 => 4 | 20 => 1 | 21 => 6 | _ => 6
theorem g_codes {P : Nat → Prop} (h : ∀ c, c < 22 → P (c + 1)) {c : Nat} (h1 : 1 ≤ c) (h2 : c ≤ 22) : P c := by
  obtain ⟨d, rfl⟩ : ∃ d, c = d + 1 := ⟨c - 1, by omega⟩
  exact h d (by omega)
theorem g_in : ∀ c, c < 22 → ∀ w ∈ u_ws (gNm (c + 1)) (gTb (c + 1)) (gNf (c + 1)), w ∈ lw_all := by
  intro c hc
  match c, hc with
  | 0, _ => exact in_X1
  | 1, _ => exact in_X2
  | 2, _ => exact in_X3
  | 3, _ => exact in_X4
  | 4, _ => exact in_X5
  | 5, _ => exact in_X6
  | 6, _ => exact in_X18
  | 7, _ => exact in_X10
  | 8, _ => exact in_X11
  | 9, _ => exact in_X12
  | 10, _ => exact in_X17
  | 11, _ => exact in_X14
  | 12, _ => exact in_X15
  | 13, _ => exact in_X16
  | 14, _ => exact in_X9
  | 15, _ => exact in_X13
  | 16, _ => exact in_J2
  | 17, _ => exact in_J8
  | 18, _ => exact in_J9
  | 19, _ => exact in_J17
  | 20, _ => exact in_J6
  | 21, _ => exact in_J19
  | n + 22, h => exact absurd h (by omega)
theorem g_ty : ∀ c, c < 22 → ∀ k, k < gNf (c + 1) → parseFieldDescriptor (gTb (c + 1) k).2.2.1 = some (gTy (c + 1) k) := by
  intro c hc
  match c, hc with
  | 0, _ => exact tyX1_ok
  | 1, _ => exact tyX2_ok
  | 2, _ => exact tyX3_ok
  | 3, _ => exact tyX4_ok
  | 4, _ => exact tyX5_ok
  | 5, _ => exact tyX6_ok
  | 6, _ => exact tyX18_ok
  | 7, _ => exact tyX10_ok
  | 8, _ => exact tyX11_ok
  | 9, _ => exact tyX12_ok
  | 10, _ => exact tyX17_ok
  | 11, _ => exact tyX14_ok
  | 12, _ => exact tyX15_ok
  | 13, _ => exact tyX16_ok
  | 14, _ => exact tyX9_ok
  | 15, _ => exact tyX13_ok
  | 16, _ => exact tyJ2_ok
  | 17, _ => exact tyJ8_ok
  | 18, _ => exact tyJ9_ok
  | 19, _ => exact tyJ17_ok
  | 20, _ => exact tyJ6_ok
  | 21, _ => exact tyJ19_ok
  | n + 22, h => exact absurd h (by omega)
theorem g_nm : ∀ c, c < 22 → ∀ a, a < gNf (c + 1) → ∀ b, b < gNf (c + 1) → a ≠ b → (gTb (c + 1) a).2.1 ≠ (gTb (c + 1) b).2.1 := by
  intro c hc
  match c, hc with
  | 0, _ => exact nmX1
  | 1, _ => exact nmX2
  | 2, _ => exact nmX3
  | 3, _ => exact nmX4
  | 4, _ => exact nmX5
  | 5, _ => exact nmX6
  | 6, _ => exact nmX18
  | 7, _ => exact nmX10
  | 8, _ => exact nmX11
  | 9, _ => exact nmX12
  | 10, _ => exact nmX17
  | 11, _ => exact nmX14
  | 12, _ => exact nmX15
  | 13, _ => exact nmX16
  | 14, _ => exact nmX9
  | 15, _ => exact nmX13
  | 16, _ => exact nmJ2
  | 17, _ => exact nmJ8
  | 18, _ => exact nmJ9
  | 19, _ => exact nmJ17
  | 20, _ => exact nmJ6
  | 21, _ => exact nmJ19
  | n + 22, h => exact absurd h (by omega)
/-- what a type is: int-like 0, long 1, reference 2, else 3 -/
def gkd : FieldType → Nat
  | .boolean | .byte | .char | .short | .int => 0
  | .long => 1
  | .object _ | .array _ => 2
  | _ => 3
/-- the component type of an array of kind c -/
def gAT : Nat → FieldType := fun c => match c with
  | 100 => .int | 101 => .byte | 102 => .boolean | 110 => .long
  | 120 => .object "java/lang/Object" | 121 => .object RX3 | 122 => .object RX7 | 123 => .object RJ9 | _ => .object RJ17
def gkK (c k : Nat) : Nat := if 100 ≤ c then gkd (gAT c) else gkd (gTy c k)
def gV (G : g_G) (a k : Nat) : Value := match gkK (gcl G a) k with
  | 0 => .int (gI G a k)
  | 1 => .long (gL G a k)
  | _ => va_rf (gR G a k)
/-- the tables: numbers of the kinds, slots of the fields; the heap at the law's start -/
abbrev g_D : Type := (Nat → ClassId) × (Nat → Nat → Nat) × Heap
def gslot (D : g_D) (c k : Nat) : Nat := if 100 ≤ c then k else D.2.1 c k
/-- an object that isn't the machine's own, its monitor free -/
def gFree (cell : Cell) : Prop := cell.vm = .none ∧ cell.monitor.owner = none ∧ cell.monitor.count = 0
/-- a cell is as the picture has it -/
def gAt (E : g_E) (D : g_D) (G : g_G) (H : Heap) (a : Nat) : Prop := ∃ cell : Cell, H[a]? = some cell ∧ cell.cls = D.1 (gcl G a) ∧ cell.vm ≠ .unknown ∧ cell.vm.isStatics = false ∧ (gB E ≤ a → gFree cell) ∧
  (100 ≤ gcl G a → gln G a ≤ cell.slots.size ∧ cell.slots.size.toInt32 = Int32.ofNat (gln G a) ∧ (gB E ≤ a → cell.slots.size = gln G a)) ∧ (gcl G a < 100 → gln G a = gNf (gcl G a)) ∧ gln G a < 2 ^ 31 ∧ ∀ k, k < gln G a → cell.slots[gslot D (gcl G a) k]? = some (gV G a k)
def gOk (c : Nat) : Prop := (1 ≤ c ∧ c ≤ 22) ∨ c = 100 ∨ c = 101 ∨ c = 102 ∨ c = 110 ∨ c = 120 ∨ c = 121 ∨ c = 122 ∨ c = 123 ∨ c = 124
def ghsl (H : Heap) : Nat := (H.toList.map (·.slots.size)).sum
def gReal (E : g_E) (D : g_D) (G : g_G) (H : Heap) : Prop := H.size = gsz G ∧ ghsl H = gsl G ∧ gsz G ≤ gMc E ∧ gsl G ≤ gMs E ∧ gB E ≤ gsz G ∧
  (∀ a, gcl G a ≠ 0 → gOk (gcl G a) ∧ gAt E D G H a) ∧ ∀ a, a < gB E → H[a]? = D.2.2[a]?
/-- behind some steps of a method: the picture; what was written are own cells -/
def gSt (E : g_E) (D : g_D) (G : g_G) (H : Heap) (locs : List Loc) : Prop := gReal E D G H ∧ ∀ q ∈ locs, gB E ≤ q.base
