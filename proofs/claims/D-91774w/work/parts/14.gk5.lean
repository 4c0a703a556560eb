/-! rows that write, load, make, call, end -/
set_option maxRecDepth 100000
theorem gReal.upd {E : g_E} {D : g_D} {G G1 : g_G} {H H1 : Heap} {a k : Nat} {cell : Cell} {v : Value} (h : gReal E D G H) (ha : gcl G a ≠ 0) (hB : gB E ≤ a) (hk : k < gln G a) (hc : H[a]? = some cell) (h1 : H1[a]? = some (cell.setSlot (gslot D (gcl G a) k) v)) (hz : H1.size = H.size) (ho : ∀ q : Nat, q ≠ a → H1[q]? = H[q]?)
    (e1 : gsz G1 = gsz G) (e2 : gsl G1 = gsl G) (e3 : gcl G1 = gcl G) (e4 : gln G1 = gln G) (hv : gV G1 a k = v) (hne : ∀ b j, ¬ (b = a ∧ j = k) → gV G1 b j = gV G b j) (hap : ∀ j, j < gln G a → j ≠ k → gslot D (gcl G a) k ≠ gslot D (gcl G a) j) : gReal E D G1 H1 := by
  obtain ⟨r1, r2, r3, r4, r5, r6, r7⟩ := h
  refine ⟨by rw [hz, r1, e1], by rw [ghsl_set hc h1 hz ho, r2, e2], by rw [e1]; exact r3, by rw [e2]; exact r4, by rw [e1]; exact r5, fun b hb => ?_, fun b hb => ?_⟩
  · rw [e3] at hb ⊢
    obtain ⟨g1, cb, q1, q2, q3, q4, q5, q6, q7, q8, q9⟩ := r6 b hb
    refine ⟨g1, ?_⟩
    by_cases hba : b = a
    · subst hba
      cases hc.symm.trans q1
      refine ⟨_, h1, by rw [e3]; exact q2, q3, q4, q5, fun hh => ?_, fun hh => ?_, by rw [e4]; exact q8, fun j hj => ?_⟩
      · rw [e3] at hh
        rw [e4]
        simpa [Cell.setSlot] using q6 hh
      · rw [e3] at hh ⊢
        rw [e4]
        exact q7 hh
      · rw [e4] at hj
        rw [e3]
        by_cases hjk : j = k
        · subst hjk
          rw [hv]
          exact Cell.slots_setSlot_self _ (k2_hasslot (q9 j hj))
        · rw [slot_ne _ _ (hap j hj hjk), hne b j (fun z => hjk z.2)]
          exact q9 j hj
    · refine ⟨cb, by rw [ho b hba]; exact q1, by rw [e3]; exact q2, q3, q4, q5, fun hh => by rw [e3] at hh; rw [e4]; exact q6 hh, fun hh => by rw [e3] at hh ⊢; rw [e4]; exact q7 hh, by rw [e4]; exact q8, fun j hj => ?_⟩
      rw [e4] at hj
      rw [e3, hne b j (fun z => hba z.1)]
      exact q9 j hj
  · rw [ho b (by omega)]
    exact r7 b hb
theorem gReal.push {E : g_E} {D : g_D} {G : g_G} {H H1 : Heap} {c n : Nat} {cell : Cell} (h : gReal E D G H) (h1 : H1[H.size]? = some cell) (hz : H1.size = H.size + 1) (ho : ∀ q : Nat, q < H.size → H1[q]? = H[q]?) (hn : cell.slots.size = n) (hc : gsz G + 1 ≤ gMc E) (hs : gsl G + n ≤ gMs E)
    (hok : gOk c) (hvm : gFree cell) (hcl : cell.cls = D.1 c) (h100 : c < 100 → n = gNf c) (hsm : n < 2 ^ 31) (hval : ∀ k, k < n → cell.slots[gslot D c k]? = some (gV (gnew G c n) (gsz G) k)) : gReal E D (gnew G c n) H1 := by
  have hlt : ∀ b, gcl G b ≠ 0 → b < gsz G := fun b hb => h.lt hb
  obtain ⟨r1, r2, r3, r4, r5, r6, r7⟩ := h
  refine ⟨by rw [hz, r1]; rfl, by rw [ghsl_pushed h1 hz ho, r2, hn]; rfl, hc, hs, Nat.le_succ_of_le r5, fun b hb => ?_, fun b hb => ?_⟩
  · rw [gcl_new] at hb ⊢
    by_cases hbz : b = gsz G
    · subst hbz
      rw [if_pos rfl]
      refine ⟨hok, cell, by rw [← r1]; exact h1, by rw [gcl_new, if_pos rfl]; exact hcl, (by rw [hvm.1]; exact fun h => VmData.noConfusion h), (by rw [hvm.1]; rfl), fun _ => hvm, fun _ => by rw [gln_new, if_pos rfl]; exact ⟨Nat.le_of_eq hn.symm, congrArg Nat.toInt32 hn, fun _ => hn⟩, fun hh => ?_, by rw [gln_new, if_pos rfl]; exact hsm, fun k hk => ?_⟩
      · rw [gcl_new, if_pos rfl] at hh ⊢
        rw [gln_new, if_pos rfl]
        exact h100 hh
      · rw [gln_new, if_pos rfl] at hk
        rw [gcl_new, if_pos rfl]
        exact hval k hk
    · rw [if_neg hbz] at hb ⊢
      obtain ⟨g1, cb, q1, q2, q3, q4, q5, q6, q7, q8, q9⟩ := r6 b hb
      refine ⟨g1, cb, by rw [ho b (by rw [r1]; exact hlt b hb)]; exact q1, by rw [gcl_new, if_neg hbz]; exact q2, q3, q4, q5, fun hh => ?_, fun hh => ?_, by rw [gln_new, if_neg hbz]; exact q8, fun k hk => ?_⟩
      · rw [gcl_new, if_neg hbz] at hh
        rw [gln_new, if_neg hbz]
        exact q6 hh
      · rw [gcl_new, if_neg hbz] at hh ⊢
        rw [gln_new, if_neg hbz]
        exact q7 hh
      · rw [gln_new, if_neg hbz] at hk
        have e : gV (gnew G c n) b k = gV G b k := gV_eq (by rw [gcl_new, if_neg hbz]) (by rw [gI_new, if_neg hbz]) (by rw [gL_new, if_neg hbz]) (by rw [gR_new, if_neg hbz])
        rw [gcl_new, if_neg hbz, e]
        exact q9 k hk
  · rw [ho b (by omega)]
    exact r7 b hb
theorem gV_sI {G : g_G} {a k : Nat} {x : Int32} (h : gkK (gcl G a) k = 0) : gV (gsI G a k x) a k = .int x := by
  unfold gV
  rw [gcl_sI, h]
  show Value.int (if a = a ∧ k = k then x else _) = _
  rw [if_pos ⟨rfl, rfl⟩]
theorem gV_sI_ne {G : g_G} {a k b j : Nat} {x : Int32} (h : ¬ (b = a ∧ j = k)) : gV (gsI G a k x) b j = gV G b j := gV_eq rfl (by rw [gI_sI, if_neg h]) rfl rfl
theorem gV_sL {G : g_G} {a k : Nat} {x : Int64} (h : gkK (gcl G a) k = 1) : gV (gsL G a k x) a k = .long x := by
  unfold gV
  rw [gcl_sL, h]
  show Value.long (if a = a ∧ k = k then x else _) = _
  rw [if_pos ⟨rfl, rfl⟩]
theorem gV_sL_ne {G : g_G} {a k b j : Nat} {x : Int64} (h : ¬ (b = a ∧ j = k)) : gV (gsL G a k x) b j = gV G b j := gV_eq rfl rfl (by rw [gL_sL, if_neg h]) rfl
theorem gV_sR {G : g_G} {a k : Nat} {x : Option Nat} (h : gkK (gcl G a) k = 2) : gV (gsR G a k x) a k = va_rf x := by
  unfold gV
  rw [gcl_sR, h]
  show va_rf (if a = a ∧ k = k then x else _) = _
  rw [if_pos ⟨rfl, rfl⟩]
theorem gV_sR_ne {G : g_G} {a k b j : Nat} {x : Option Nat} (h : ¬ (b = a ∧ j = k)) : gV (gsR G a k x) b j = gV G b j := gV_eq rfl rfl rfl (by rw [gR_sR, if_neg h])
theorem gV_I {G : g_G} {a k : Nat} (h : gkK (gcl G a) k = 0) : gV G a k = .int (gI G a k) := by unfold gV; simp only [h]
theorem gV_L {G : g_G} {a k : Nat} (h : gkK (gcl G a) k = 1) : gV G a k = .long (gL G a k) := by unfold gV; simp only [h]
theorem gV_R {G : g_G} {a k : Nat} (h : gkK (gcl G a) k = 2) : gV G a k = va_rf (gR G a k) := by unfold gV; simp only [h]
theorem gkK_fd {lo hi k x : Nat} {dcl n d : String} {fin : Bool} {ty : FieldType} (hF : gFd lo hi k dcl n d fin ty) (h1 : lo ≤ x) (h2 : x ≤ hi) : gkK x k = gkd ty := by
  obtain ⟨⟨-, b2⟩, -, -, hty⟩ := hF x h1 h2
  unfold gkK
  rw [if_neg (by omega), hty]
section GROW5
variable {p : Program} {l : Launch} {e : Env} {R : Room} {s : State} {m : MethodId} {args : Array Value} {below : List Frame} {meth : Method} {c : Code} {H : Heap} {locs : List Loc} {cells slots : Nat} {Q : State → Prop}
variable {cc : ByteArray} {pc nL : Nat} {ls : Array Slot} {rest : List Value} {E : g_E} {D : g_D} {G : g_G} {own nm : String} {ret : Option FieldType} {F Lc : Nat}
theorem gSt.put {H1 : Heap} {a k : Nat} {G1 : g_G} (hS : gSt E D G H locs) (hB : gB E ≤ a) (h : gReal E D G1 H1) : gSt E D G1 H1 (locs ++ [⟨a, k⟩]) := by
  refine ⟨h, fun q hq => ?_⟩
  rcases List.mem_append.mp hq with h1 | h1
  · exact hS.2 q h1
  · rw [List.mem_singleton.mp h1]
    exact hB
/-- getfield: an int, a reference -/
theorem g_rdI (hx : p.tables.exec = Jvm.exec) (hb : c.code = cc) (hown : s.vm.findClass own = some m.cls) (hts : ∀ w ∈ lw_all, w.before args s = true) (hKn : gKn E D s) (hS : gSt E D G H locs) {lo hi k index : Nat} {r : Option Nat} {dcl n d ref : String} {fin : Bool} {ty : FieldType} {β : Type} {f : Int32 → Option β} {Rr : β} (h : (grI G lo hi r k).bind f = some Rr)
    (hF : gFd lo hi k dcl n d fin ty) (hk : gkd ty = 0) (hlink : (Cond.fieldLink own index ref n d).before args s = true ∨ ∃ w, (Cond.fieldLinkNest own index ref n d w).before args s = true) (hsame : ∀ x, s.fieldFound? dcl n d = some x → s.fieldFound? ref n d = some x) (hdg : decode cc pc = .ok (.getfield index, 3))
    (kk : ∀ x, f x = some Rr → W p l e R s m args below meth c H locs cells slots Q (F0 m (pc + 3) ls (.int x :: rest))) : W p l e R s m args below meth c H locs cells slots Q (F0 m pc ls (va_rf r :: rest)) := by
  obtain ⟨x, hx1, hf⟩ := g_bnd h
  obtain ⟨a, rfl, h2⟩ := g_bnd hx1
  by_cases hc : lo ≤ gcl G a ∧ gcl G a ≤ hi
  · cases g_ift hc h2
    exact g_getf0 hx hb hown hts hKn hS hF hc.1 hc.2 (gV_I (by rw [gkK_fd hF hc.1 hc.2]; exact hk)) hlink hsame hdg (kk _ hf)
  · exact g_no (g_iff hc h2)
theorem g_rdR (hx : p.tables.exec = Jvm.exec) (hb : c.code = cc) (hown : s.vm.findClass own = some m.cls) (hts : ∀ w ∈ lw_all, w.before args s = true) (hKn : gKn E D s) (hS : gSt E D G H locs) {lo hi k index : Nat} {r : Option Nat} {dcl n d ref : String} {fin : Bool} {ty : FieldType} {β : Type} {f : Option Nat → Option β} {Rr : β} (h : (grR G lo hi r k).bind f = some Rr)
    (hF : gFd lo hi k dcl n d fin ty) (hk : gkd ty = 2) (hlink : (Cond.fieldLink own index ref n d).before args s = true ∨ ∃ w, (Cond.fieldLinkNest own index ref n d w).before args s = true) (hsame : ∀ x, s.fieldFound? dcl n d = some x → s.fieldFound? ref n d = some x) (hdg : decode cc pc = .ok (.getfield index, 3))
    (kk : ∀ x, f x = some Rr → W p l e R s m args below meth c H locs cells slots Q (F0 m (pc + 3) ls (va_rf x :: rest))) : W p l e R s m args below meth c H locs cells slots Q (F0 m pc ls (va_rf r :: rest)) := by
  obtain ⟨x, hx1, hf⟩ := g_bnd h
  obtain ⟨a, rfl, h2⟩ := g_bnd hx1
  by_cases hc : lo ≤ gcl G a ∧ gcl G a ≤ hi
  · cases g_ift hc h2
    exact g_getf0 hx hb hown hts hKn hS hF hc.1 hc.2 (gV_R (by rw [gkK_fd hF hc.1 hc.2]; exact hk)) hlink hsame hdg (kk _ hf)
  · exact g_no (g_iff hc h2)
/-- the slots of one kind are apart -/
theorem g_apart (hts : ∀ w ∈ lw_all, w.before args s = true) (hKn : gKn E D s) {x : Nat} (b1 : 1 ≤ x) (b2 : x ≤ 22) {i j : Nat} (hi : i < gNf x) (hj : j < gNf x) (hne : i ≠ j) : D.2.1 x i ≠ D.2.1 x j := by
  obtain ⟨hSl, -⟩ := hKn.obj b1 b2
  obtain ⟨_, _, _, fa, hia, ea⟩ := hSl i hi
  obtain ⟨_, _, _, fb, hib, eb⟩ := hSl j hj
  rw [← ea, ← eb]
  refine u_apart (u_lays hts (g_in' b1 b2) hi) (u_lays hts (g_in' b1 b2) hj) hia hib ?_
  rw [(State.fieldFound?_type hia (g_ty' b1 b2 i hi)).1, (State.fieldFound?_type hib (g_ty' b1 b2 j hj)).1]
  exact g_nm' b1 b2 i hi j hj hne
theorem g_putf0 (hx : p.tables.exec = Jvm.exec) (hb : c.code = cc) (hown : s.vm.findClass own = some m.cls) (hts : ∀ w ∈ lw_all, w.before args s = true) (hKn : gKn E D s) (hS : gSt E D G H locs) {lo hi k a index : Nat} {dcl n d ref : String} {fin : Bool} {ty : FieldType} (hF : gFd lo hi k dcl n d fin ty) (h1 : lo ≤ gcl G a) (h2 : gcl G a ≤ hi) (hB : gB E ≤ a) {v : Value} (hn : narrow ty v = v) (hfit : fits ty v = true)
    (hlink : (Cond.fieldLink own index ref n d).before args s = true ∨ (fin = false ∧ ∃ w, (Cond.fieldLinkNest own index ref n d w).before args s = true)) (hsame : ∀ x, s.fieldFound? dcl n d = some x → s.fieldFound? ref n d = some x) (hfin : fin = true → meth.name = "<init>" ∧ dcl = own) (hdg : decode cc pc = .ok (.putfield index, 3))
    {G1 : g_G} (e1 : gsz G1 = gsz G) (e2 : gsl G1 = gsl G) (e3 : gcl G1 = gcl G) (e4 : gln G1 = gln G) (hv : gV G1 a k = v) (hne : ∀ b j, ¬ (b = a ∧ j = k) → gV G1 b j = gV G b j)
    (kk : ∀ (H1 : Heap) (locs1 : List Loc), gSt E D G1 H1 locs1 → W p l e R s m args below meth c H1 locs1 cells slots Q (F0 m (pc + 3) ls rest)) : W p l e R s m args below meth c H locs cells slots Q (F0 m pc ls (v :: .ref a :: rest)) := by
  obtain ⟨⟨b1, b2⟩, hk, hT, hty⟩ := hF _ h1 h2
  have ha : gcl G a ≠ 0 := by omega
  obtain ⟨-, cell, q1, q2, q3, q4, q5, q6, q7, q8, q9⟩ := hS.1.at ha
  have hln : gln G a = gNf (gcl G a) := q7 (by omega)
  obtain ⟨hSl, hfc, kC, hkC, hkind⟩ := hKn.obj b1 b2
  obtain ⟨cf, kf, fi, f, hi', hsl⟩ := hSl k hk
  have hst := (u_facts hfc hkC (u_lays hts (g_in' b1 b2) hk) hi').1
  have hd := g_ty' b1 b2 k hk
  have hlay := hts _ (g_in' b1 b2 _ (u_in_lay hk))
  have hsg : gslot D (gcl G a) k = f.slot := by unfold gslot; rw [if_neg (by omega)]; exact hsl.symm
  have hhas : f.slot < cell.slots.size := by
    have := q9 k (by rw [hln]; exact hk)
    rw [hsg] at this
    exact k2_hasslot this
  have hap : ∀ j, j < gln G a → j ≠ k → gslot D (gcl G a) k ≠ gslot D (gcl G a) j := by
    intro j hj hjk
    unfold gslot
    rw [if_neg (by omega), if_neg (by omega)]
    exact g_apart hts hKn b1 b2 hk (by rw [← hln]; exact hj) (Ne.symm hjk)
  have go : ∀ H' : Heap, H'[a]? = some (cell.setSlot f.slot v) → H'.size = H.size → (∀ q : Nat, q ≠ a → H'[q]? = H[q]?) → W p l e R s m args below meth c H' (locs ++ [⟨a, f.slot⟩]) cells slots Q (F0 m (pc + 3) ls rest) := fun H' z1 z2 z3 =>
    kk H' _ (hS.put hB (hS.1.upd ha hB (by rw [hln]; exact hk) q1 (by rw [hsg]; exact z1) z2 z3 e1 e2 e3 e4 hv hne hap))
  rw [hty, hT] at hd
  unfold u_lay at hlay
  rw [hT] at hlay hi'
  have hvm : cell.vm = .none := (q5 hB).1
  cases fin with
  | false =>
    rw [if_neg (by simp)] at hlay
    have h6 := u_store hfc hkC hkind hlay hi' hd hn hfit
    rcases hlink with hl | ⟨-, w, hl⟩
    · exact W.putK hx hb (f := f) ⟨hown, hl, ⟨_, _, _, hsame _ hi'⟩, hst⟩ (by rw [q2]; exact h6) q1 hvm hhas rfl rfl hdg go
    · exact va_WputK hx hb (f := f) hown hl (hsame _ hi') hst (by rw [q2]; exact h6) q1 hvm hhas rfl rfl hdg go
  | true =>
    rw [if_pos rfl] at hlay
    obtain ⟨hin2, rfl⟩ := hfin rfl
    have hcf : m.cls = cf := by
      obtain ⟨_, _, c', _, _, _, -, -, hf', -, -, -, hown2, -⟩ := Cond.laysFinal_spec hlay
      have e1 : c' = cf := by have := hi'.symm.trans hf'; simp at this; exact this.1.symm
      rw [← e1]; exact Option.some.inj (hown.symm.trans hown2)
    have h6 := u_fits hfc hkC hkind (Or.inr hlay) hi' hd hn hfit
    rcases hlink with hl | ⟨hl, -⟩
    · exact W.putFinK hx hb hown hl (hsame _ hi') hst hcf hin2 (by rw [q2]; exact h6) q1 hvm hhas rfl rfl hdg go
    · cases hl
theorem g_ptI (hx : p.tables.exec = Jvm.exec) (hb : c.code = cc) (hown : s.vm.findClass own = some m.cls) (hts : ∀ w ∈ lw_all, w.before args s = true) (hKn : gKn E D s) (hS : gSt E D G H locs) {lo hi k index : Nat} {r : Option Nat} {v : Int32} {dcl n d ref : String} {fin : Bool} {β : Type} {f : g_G → Option β} {Rr : β} (h : (gpI E G lo hi r k v).bind f = some Rr)
    (hF : gFd lo hi k dcl n d fin .int) (hlink : (Cond.fieldLink own index ref n d).before args s = true ∨ (fin = false ∧ ∃ w, (Cond.fieldLinkNest own index ref n d w).before args s = true)) (hsame : ∀ x, s.fieldFound? dcl n d = some x → s.fieldFound? ref n d = some x) (hfin : fin = true → meth.name = "<init>" ∧ dcl = own) (hdg : decode cc pc = .ok (.putfield index, 3))
    (kk : ∀ G1, f G1 = some Rr → ∀ (H1 : Heap) (locs1 : List Loc), gSt E D G1 H1 locs1 → W p l e R s m args below meth c H1 locs1 cells slots Q (F0 m (pc + 3) ls rest)) : W p l e R s m args below meth c H locs cells slots Q (F0 m pc ls (.int v :: va_rf r :: rest)) := by
  obtain ⟨G1, hx1, hf⟩ := g_bnd h
  obtain ⟨a, rfl, h2⟩ := g_bnd hx1
  by_cases hc : gB E ≤ a ∧ lo ≤ gcl G a ∧ gcl G a ≤ hi
  · cases g_ift hc h2
    exact g_putf0 (G1 := gsI G a k v) hx hb hown hts hKn hS hF hc.2.1 hc.2.2 hc.1 rfl rfl hlink hsame hfin hdg rfl rfl rfl rfl (gV_sI (by rw [gkK_fd hF hc.2.1 hc.2.2]; rfl)) (fun b j hh => gV_sI_ne hh) (kk _ hf)
  · exact g_no (g_iff hc h2)
theorem g_ptZ (hx : p.tables.exec = Jvm.exec) (hb : c.code = cc) (hown : s.vm.findClass own = some m.cls) (hts : ∀ w ∈ lw_all, w.before args s = true) (hKn : gKn E D s) (hS : gSt E D G H locs) {lo hi k index : Nat} {r : Option Nat} {v : Int32} {dcl n d ref : String} {fin : Bool} {β : Type} {f : g_G → Option β} {Rr : β} (h : (gpZ E G lo hi r k v).bind f = some Rr)
    (hF : gFd lo hi k dcl n d fin .boolean) (hlink : (Cond.fieldLink own index ref n d).before args s = true ∨ (fin = false ∧ ∃ w, (Cond.fieldLinkNest own index ref n d w).before args s = true)) (hsame : ∀ x, s.fieldFound? dcl n d = some x → s.fieldFound? ref n d = some x) (hfin : fin = true → meth.name = "<init>" ∧ dcl = own) (hdg : decode cc pc = .ok (.putfield index, 3))
    (kk : ∀ G1, f G1 = some Rr → ∀ (H1 : Heap) (locs1 : List Loc), gSt E D G1 H1 locs1 → W p l e R s m args below meth c H1 locs1 cells slots Q (F0 m (pc + 3) ls rest)) : W p l e R s m args below meth c H locs cells slots Q (F0 m pc ls (.int v :: va_rf r :: rest)) := by
  obtain ⟨G1, hx1, hf⟩ := g_bnd h
  obtain ⟨a, rfl, h2⟩ := g_bnd hx1
  by_cases hc : (v = 0 ∨ v = 1) ∧ gB E ≤ a ∧ lo ≤ gcl G a ∧ gcl G a ≤ hi
  · cases g_ift hc h2
    have hz : narrow .boolean (.int v) = .int v ∧ fits .boolean (.int v) = true := by
      rcases hc.1 with h0 | h0 <;> subst h0 <;> exact ⟨by decide, by decide⟩
    exact g_putf0 (G1 := gsI G a k v) hx hb hown hts hKn hS hF hc.2.2.1 hc.2.2.2 hc.2.1 hz.1 hz.2 hlink hsame hfin hdg rfl rfl rfl rfl (gV_sI (by rw [gkK_fd hF hc.2.2.1 hc.2.2.2]; rfl)) (fun b j hh => gV_sI_ne hh) (kk _ hf)
  · exact g_no (g_iff hc h2)
theorem g_fitB {v : Int32} (h : v.toInt8.toInt32 = v) : fits .byte (.int v) = true := by
  rw [← h]
  exact pk_fb v
theorem g_ptB (hx : p.tables.exec = Jvm.exec) (hb : c.code = cc) (hown : s.vm.findClass own = some m.cls) (hts : ∀ w ∈ lw_all, w.before args s = true) (hKn : gKn E D s) (hS : gSt E D G H locs) {lo hi k index : Nat} {r : Option Nat} {v : Int32} {dcl n d ref : String} {fin : Bool} {β : Type} {f : g_G → Option β} {Rr : β} (h : (gpB E G lo hi r k v).bind f = some Rr)
    (hF : gFd lo hi k dcl n d fin .byte) (hlink : (Cond.fieldLink own index ref n d).before args s = true ∨ (fin = false ∧ ∃ w, (Cond.fieldLinkNest own index ref n d w).before args s = true)) (hsame : ∀ x, s.fieldFound? dcl n d = some x → s.fieldFound? ref n d = some x) (hfin : fin = true → meth.name = "<init>" ∧ dcl = own) (hdg : decode cc pc = .ok (.putfield index, 3))
    (kk : ∀ G1, f G1 = some Rr → ∀ (H1 : Heap) (locs1 : List Loc), gSt E D G1 H1 locs1 → W p l e R s m args below meth c H1 locs1 cells slots Q (F0 m (pc + 3) ls rest)) : W p l e R s m args below meth c H locs cells slots Q (F0 m pc ls (.int v :: va_rf r :: rest)) := by
  obtain ⟨G1, hx1, hf⟩ := g_bnd h
  obtain ⟨a, rfl, h2⟩ := g_bnd hx1
  by_cases hc : v.toInt8.toInt32 = v ∧ gB E ≤ a ∧ lo ≤ gcl G a ∧ gcl G a ≤ hi
  · cases g_ift hc h2
    exact g_putf0 (G1 := gsI G a k v) hx hb hown hts hKn hS hF hc.2.2.1 hc.2.2.2 hc.2.1 (show Value.int v.toInt8.toInt32 = _ by rw [hc.1]) (g_fitB hc.1) hlink hsame hfin hdg rfl rfl rfl rfl (gV_sI (by rw [gkK_fd hF hc.2.2.1 hc.2.2.2]; rfl)) (fun b j hh => gV_sI_ne hh) (kk _ hf)
  · exact g_no (g_iff hc h2)
theorem va_rf_fit (C : String) (r : Option Nat) : fits (.object C) (va_rf r) = true ∧ narrow (.object C) (va_rf r) = va_rf r := by cases r <;> exact ⟨rfl, rfl⟩
theorem va_rf_fitA (t : FieldType) (r : Option Nat) : fits (.array t) (va_rf r) = true ∧ narrow (.array t) (va_rf r) = va_rf r := by cases r <;> exact ⟨rfl, rfl⟩
theorem g_ptR (hx : p.tables.exec = Jvm.exec) (hb : c.code = cc) (hown : s.vm.findClass own = some m.cls) (hts : ∀ w ∈ lw_all, w.before args s = true) (hKn : gKn E D s) (hS : gSt E D G H locs) {lo hi k index : Nat} {r v : Option Nat} {dcl n d ref : String} {fin : Bool} {ty : FieldType} {β : Type} {f : g_G → Option β} {Rr : β} (h : (gpR E G lo hi r k v).bind f = some Rr)
    (hF : gFd lo hi k dcl n d fin ty) (hk : gkd ty = 2) (hlink : (Cond.fieldLink own index ref n d).before args s = true ∨ (fin = false ∧ ∃ w, (Cond.fieldLinkNest own index ref n d w).before args s = true)) (hsame : ∀ x, s.fieldFound? dcl n d = some x → s.fieldFound? ref n d = some x) (hfin : fin = true → meth.name = "<init>" ∧ dcl = own) (hdg : decode cc pc = .ok (.putfield index, 3))
    (kk : ∀ G1, f G1 = some Rr → ∀ (H1 : Heap) (locs1 : List Loc), gSt E D G1 H1 locs1 → W p l e R s m args below meth c H1 locs1 cells slots Q (F0 m (pc + 3) ls rest)) : W p l e R s m args below meth c H locs cells slots Q (F0 m pc ls (va_rf v :: va_rf r :: rest)) := by
  obtain ⟨G1, hx1, hf⟩ := g_bnd h
  obtain ⟨a, rfl, h2⟩ := g_bnd hx1
  by_cases hc : gB E ≤ a ∧ lo ≤ gcl G a ∧ gcl G a ≤ hi
  · cases g_ift hc h2
    have hz : narrow ty (va_rf v) = va_rf v ∧ fits ty (va_rf v) = true := by
      cases ty <;> first | (cases hk; done) | exact ⟨(va_rf_fit _ v).2, (va_rf_fit _ v).1⟩ | exact ⟨(va_rf_fitA _ v).2, (va_rf_fitA _ v).1⟩
    exact g_putf0 (G1 := gsR G a k v) hx hb hown hts hKn hS hF hc.2.1 hc.2.2 hc.1 hz.1 hz.2 hlink hsame hfin hdg rfl rfl rfl rfl (gV_sR (by rw [gkK_fd hF hc.2.1 hc.2.2]; exact hk)) (fun b j hh => gV_sR_ne hh) (kk _ hf)
  · exact g_no (g_iff hc h2)
end GROW5
