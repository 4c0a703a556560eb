/-! the start: the tables -/
set_option maxRecDepth 100000
theorem g_inst : ∀ c, c < 22 → ∃ n, Cond.instantiable (gNm (c + 1)) n ∈ lw_all := by
  intro c hc
  match c, hc with
  | 0, _ => exact ⟨33, q157⟩
  | 1, _ => exact ⟨3, q165⟩
  | 2, _ => exact ⟨13, q530⟩
  | 3, _ => exact ⟨70, q1839⟩
  | 4, _ => exact ⟨14, q1108⟩
  | 5, _ => exact ⟨8, q1368⟩
  | 6, _ => exact ⟨4, q963⟩
  | 7, _ => exact ⟨1, q1488⟩
  | 8, _ => exact ⟨2, q1508⟩
  | 9, _ => exact ⟨1, q1569⟩
  | 10, _ => exact ⟨5, q1681⟩
  | 11, _ => exact ⟨5, q1620⟩
  | 12, _ => exact ⟨4, q1636⟩
  | 13, _ => exact ⟨6, q1653⟩
  | 14, _ => exact ⟨7, q1395⟩
  | 15, _ => exact ⟨7, q1586⟩
  | 16, _ => exact ⟨3, q171⟩
  | 17, _ => exact ⟨4, q228⟩
  | 18, _ => exact ⟨4, q410⟩
  | 19, _ => exact ⟨1, q1544⟩
  | 20, _ => exact ⟨6, q187⟩
  | 21, _ => exact ⟨6, q1725⟩
  | n + 22, h => exact absurd h (by omega)
theorem g_tab {s : State} {args : Array Value} (hts : ∀ w ∈ lw_all, w.before args s = true) : ∃ (ids : Nat → ClassId) (sl : Nat → Nat → Nat), ∀ c, c < 22 → u_Kn s (gNm (c + 1)) (gTb (c + 1)) (gNf (c + 1)) (ids (c + 1)) (sl (c + 1)) := by
  have h : ∀ c : Nat, ∃ q : ClassId × (Nat → Nat), c < 22 → u_Kn s (gNm (c + 1)) (gTb (c + 1)) (gNf (c + 1)) q.1 q.2 := fun c => by
    by_cases hc : c < 22
    · obtain ⟨n, hn⟩ := g_inst c hc
      obtain ⟨cC, iS, hk⟩ := u_known (ws := lw_all) (n := n) hts (g_in c hc) (hts _ hn)
      exact ⟨(cC, iS), fun _ => hk⟩
    · exact ⟨(0, fun _ => 0), fun z => absurd z hc⟩
  obtain ⟨f, hf⟩ := Classical.axiomOfChoice h
  exact ⟨fun c => (f (c - 1)).1, fun c => (f (c - 1)).2, fun c hc => hf c hc⟩
/-- an array's number, and its component's -/
def gAr0 (s : State) (c : Nat) (q : ClassId) : Prop := (∃ (kA : Class) (comp : ClassId) (kc : Class), s.vm.classes[q]? = some kA ∧ kA.kind = .array comp (gAT c) ∧ (∀ n, gAT c = .object n → s.vm.findClass n = some comp ∧ s.vm.classes[comp]? = some kc)) ∧ s.vm.findClass ("[" ++ (gAT c).toString) = some q
theorem g_arO {s : State} {args : Array Value} {c : Nat} {n : String} (hty : gAT c = .object n) (h : (Cond.arrayOver (.object n)).before args s = true) : ∃ q, gAr0 s c q := by
  obtain ⟨comp, q, k, h1, -, h2, h3, h4⟩ := Cond.arrayOver_spec h
  obtain ⟨kc, hkc, -⟩ := Vm.findClass_spec h1
  refine ⟨q, ⟨k, comp, kc, h2, by rw [hty]; exact h3, fun m hm => ?_⟩, by rw [hty]; exact h4⟩
  rw [hty] at hm
  cases hm
  exact ⟨h1, hkc⟩
theorem g_arP {s : State} {args : Array Value} {c : Nat} (hp : ∀ n, gAT c ≠ .object n) (h : (Cond.arrayClass (gAT c)).before args s = true) : ∃ q, gAr0 s c q := by
  obtain ⟨q, k, comp, h1, h2, h3⟩ := Cond.arrayClass_spec h
  exact ⟨q, ⟨k, comp, k, h2, h3, fun n hn => absurd hn (hp n)⟩, h1⟩
theorem g_arrs {s : State} {args : Array Value} (hts : ∀ w ∈ lw_tbl, w.before args s = true) (hta : ∀ w ∈ lw_all, w.before args s = true) : ∃ ar : Nat → ClassId, ∀ c ∈ [100, 101, 102, 110, 120, 121, 122, 123], gAr0 s c (ar c) := by
  have h : ∀ c : Nat, ∃ q : ClassId, c ∈ [100, 101, 102, 110, 120, 121, 122, 123] → gAr0 s c q := fun c => by
    by_cases hc : c ∈ [100, 101, 102, 110, 120, 121, 122, 123]
    · have key : ∃ q, gAr0 s c q := by
        simp only [List.mem_cons, List.not_mem_nil, or_false] at hc
        rcases hc with rfl | rfl | rfl | rfl | rfl | rfl | rfl | rfl
        · exact g_arP (fun n h => by cases h) (hta _ q596)
        · exact g_arP (fun n h => by cases h) (hta _ q258)
        · exact g_arP (fun n h => by cases h) (hta _ q595)
        · exact g_arP (fun n h => by cases h) (hta _ q2445)
        · exact g_arO rfl (hts _ q183)
        · exact g_arO rfl (hts _ q527)
        · exact g_arO rfl (hts _ q536)
        · exact g_arO rfl (hts _ q1845)
      obtain ⟨q, hq⟩ := key
      exact ⟨q, fun _ => hq⟩
    · exact ⟨0, fun z => absurd z hc⟩
  obtain ⟨f, hf⟩ := Classical.axiomOfChoice h
  exact ⟨f, hf⟩
/-- every kind of object goes to Object -/
theorem g_cO : ∀ c, c < 22 → Cond.castable (gNm (c + 1)) "java/lang/Object" ∈ lw_tbl := by
  intro c hc
  match c, hc with
  | 0, _ => exact q2467
  | 1, _ => exact q2468
  | 2, _ => exact q2464
  | 3, _ => exact q2472
  | 4, _ => exact q2473
  | 5, _ => exact q2476
  | 6, _ => exact q2488
  | 7, _ => exact q2478
  | 8, _ => exact q2479
  | 9, _ => exact q2481
  | 10, _ => exact q2486
  | 11, _ => exact q2483
  | 12, _ => exact q2484
  | 13, _ => exact q2485
  | 14, _ => exact q2477
  | 15, _ => exact q2482
  | 16, _ => exact q2469
  | 17, _ => exact q2471
  | 18, _ => exact q2466
  | 19, _ => exact q2480
  | 20, _ => exact q2470
  | 21, _ => exact q2487
  | n + 22, h => exact absurd h (by omega)
theorem g_asg0 {s : State} {D : g_D} (hts : ∀ w ∈ lw_tbl, ∃ args : Array Value, w.before args s = true) (h1 : ∀ c, c < 22 → u_Kn s (gNm (c + 1)) (gTb (c + 1)) (gNf (c + 1)) (D.1 (c + 1)) (D.2.1 (c + 1))) (h2 : ∀ c ∈ [100, 101, 102, 110, 120, 121, 122, 123], gAr0 s c (D.1 c)) : gAsg D s := by
  intro c d hg
  have key : ∀ (c : Nat) (n : String), c ∈ [100, 101, 102, 110, 120, 121, 122, 123] → gAT c = .object n → (∃ c0 t, s.vm.findClass (gNm d) = some c0 ∧ s.vm.findClass n = some t ∧ s.vm.assignable c0 t = true) → 1 ≤ d ∧ d ≤ 22 → ∃ (kA : Class) (comp : ClassId) (kc : Class), s.vm.classes[D.1 c]? = some kA ∧ kA.kind = .array comp (gAT c) ∧ s.vm.classes[comp]? = some kc ∧ s.vm.assignable (D.1 d) comp = true := by
    intro c n hc hty ⟨c0, t, w1, w2, w3⟩ hd
    obtain ⟨⟨kA, comp, kc, a1, a2, a3⟩, -⟩ := h2 c hc
    obtain ⟨b1, b2⟩ := a3 n hty
    cases w2.symm.trans b1
    have hk := (g_codes (P := fun k => u_Kn s (gNm k) (gTb k) (gNf k) (D.1 k) (D.2.1 k)) h1 hd.1 hd.2).2.1
    cases w1.symm.trans hk
    exact ⟨kA, _, kc, a1, a2, b2, w3⟩
  have cast : ∀ (A B : String), Cond.castable A B ∈ lw_tbl → ∃ c0 t, s.vm.findClass A = some c0 ∧ s.vm.findClass B = some t ∧ s.vm.assignable c0 t = true := fun A B hw => by
    obtain ⟨args, hb⟩ := hts _ hw
    exact Cond.castable_spec hb
  have self : ∀ k, 1 ≤ k → k ≤ 22 → ∃ c0 t, s.vm.findClass (gNm k) = some c0 ∧ s.vm.findClass (gNm k) = some t ∧ s.vm.assignable c0 t = true := fun k b1 b2 => by
    have hk := (g_codes (P := fun k => u_Kn s (gNm k) (gTb k) (gNf k) (D.1 k) (D.2.1 k)) h1 b1 b2).2.1
    exact ⟨_, _, hk, hk, va_asg _ _⟩
  unfold gasg at hg
  simp only [Bool.or_eq_true, Bool.and_eq_true, beq_iff_eq, Nat.ble_eq] at hg
  rcases hg with ((⟨⟨rfl, b1⟩, b2⟩ | ⟨rfl, rfl⟩) | ⟨⟨rfl, b1⟩, b2⟩) | ⟨rfl, rfl⟩
  · exact key 120 _ (by decide) rfl (cast _ _ (g_codes (P := fun k => Cond.castable (gNm k) "java/lang/Object" ∈ lw_tbl) g_cO b1 b2)) ⟨b1, b2⟩
  · exact key 121 _ (by decide) rfl (self 3 (by decide) (by decide)) ⟨by decide, by decide⟩
  · refine key 122 _ (by decide) rfl (cast _ _ ?_) ⟨by omega, by omega⟩
    have := ct_11_16 (d - 11) (by omega)
    rw [show 11 + (d - 11) = d by omega] at this
    exact this
  · exact key 123 _ (by decide) rfl (self 19 (by decide) (by decide)) ⟨by decide, by decide⟩
