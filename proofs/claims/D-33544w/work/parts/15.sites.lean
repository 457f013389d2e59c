/-! BASE: the classes, the globals of a run, contracts by heaps, rows of calls and ends -/
abbrev vwCl : List vw_C := [(RX5, TX5, 17), (RX1, TX1, 5), (RX2, TX2, 4), (RX3, TX3, 1), (RX4, TX4, 4), (RX6, TX6, 1), (RX7, TX7, 5), (RJ2, TJ2, 3), (RJ3, TJ3, 3), (RJ5, TJ5, 4)]
/-- the globals: class numbers and slots; array classes; lambda classes; the system's domain; the first new address, the heap below it; the empty Object[]; the mirror of Object[] -/
abbrev GT : Type := va_G × (Nat → ClassId) × (Nat → ClassId) × (Nat → Prop) × Nat × Heap × Nat × Nat
abbrev gD (g : GT) : va_G := g.1
abbrev gA (g : GT) : Nat → ClassId := g.2.1
abbrev gL (g : GT) : Nat → ClassId := g.2.2.1
abbrev gM (g : GT) : Nat → Prop := g.2.2.2.1
abbrev gLo (g : GT) : Nat := g.2.2.2.2.1
abbrev gB (g : GT) : Heap := g.2.2.2.2.2.1
abbrev gE (g : GT) : Nat := g.2.2.2.2.2.2.1
abbrev gMi (g : GT) : Nat := g.2.2.2.2.2.2.2
abbrev tysG (g : GT) : List (ClassId × FieldType) := [(gA g 0, .int), (gA g 1, .boolean), (gA g 2, .byte), (gA g 3, .long), (gA g 4, .object "java/lang/Object"), (gA g 5, .object "OfferSky$State")]
/-! lambda sites -/
def ls_at (U : State) (q : MethodName × Nat × Nat × Lambda.Shape) (cK : ClassId) : Prop := U.lambdaAt? q.1 q.2.1 q.2.2.1 q.2.2.2 = some (cK, none)
def ls_of (w : Cond) : Option (MethodName × Nat × Nat × Lambda.Shape) := match w with
  | .lambdaSite x pc i σ => some (x, pc, i, σ)
  | _ => none
abbrev ls_all : List (MethodName × Nat × Nat × Lambda.Shape) := siteWords_1.filterMap ls_of
theorem ls_vm {u U : State} (h : u.vm = U.vm) {q : MethodName × Nat × Nat × Lambda.Shape} {cK : ClassId} (hs : ls_at u q cK) : ls_at U q cK := by
  obtain ⟨x, pc, index, σ⟩ := q
  have hs : u.lambdaAt? x pc index σ = some (cK, none) := hs
  show U.lambdaAt? x pc index σ = some (cK, none)
  obtain ⟨m, kc, cf, i0, p0, l, hm, hk, hcf, hsh, hin, hfind, hmade, hcall, hl⟩ := State.lambdaAt?_spec hs
  obtain ⟨m2, k2, hm2, hk2, hjdk, howes⟩ := State.lambdaAt?_road hs
  cases hm.symm.trans hm2
  cases hk.symm.trans hk2
  rcases hl with ⟨a, cell, -, h1, -⟩ | ⟨rfl, -, hcap⟩
  · cases h1
  · have hany : ((Lambda.sitesOf kc).any fun y => decide (y = (m.idx, pc, index, σ))) = true := by simpa using hin
    have hm' : U.methodNamed? x = some m := by
      have e : u.methodNamed? x = (u.setVm U.vm).methodNamed? x := by rw [← h]; rfl
      exact (show (u.setVm U.vm).methodNamed? x = some m by rw [← e]; exact hm)
    have hcall' : U.lambdaCallable σ cK = true := by
      have e : u.lambdaCallable σ cK = (u.setVm U.vm).lambdaCallable σ cK := by rw [← h]; rfl
      exact (show (u.setVm U.vm).lambdaCallable σ cK = true by rw [← e]; exact hcall)
    rw [h] at hk howes hmade
    simp [State.lambdaAt?, guard, hjdk, howes, hm', hk, hcf, hsh, hany, hfind, hcap, hmade, hcall']
theorem ls_warm {s U : State} (hW : s.WarmedH U.vm) {q : MethodName × Nat × Nat × Lambda.Shape} {cK : ClassId} (hs : ls_at s q cK) : ls_at U q cK := by
  have h1 : ls_at (s.setVm U.vm) q cK := by
    obtain ⟨x, pc, index, σ⟩ := q
    have hs : s.lambdaAt? x pc index σ = some (cK, none) := hs
    show (s.setVm U.vm).lambdaAt? x pc index σ = some (cK, none)
    obtain ⟨m, kc, cf, i0, p0, l, hm, hk, hcf, hsh, hin, hfind, hmade, hcall, hl⟩ := State.lambdaAt?_spec hs
    obtain ⟨m2, k2, hm2, hk2, hjdk, howes⟩ := State.lambdaAt?_road hs
    cases hm.symm.trans hm2
    cases hk.symm.trans hk2
    rcases hl with ⟨a, cell, -, h1, -⟩ | ⟨rfl, -, hcap⟩
    · cases h1
    · have hA := hW.alike
      have hcall' : (s.setVm U.vm).lambdaCallable σ cK = true := by
        have e : ∀ u : State, u.lambdaCallable σ cK = u.lambdaCallable σ cK := fun _ => rfl
        simp only [State.lambdaCallable, State.setVm, hA.findClass, hA.assignable, hA.superclasses, hA.declaredIn] at hcall ⊢
        exact hcall
      obtain ⟨kc', hk', he⟩ := hA.2.2 _ _ hk
      have hm' : (s.setVm U.vm).methodNamed? x = some m := by rw [State.methodNamed?_setVm hA]; exact hm
      have hcf' : kc'.cf = some cf := by rw [he]; exact hcf
      have hin' : (m.idx, pc, index, σ) ∈ Lambda.sitesOf kc' := by rw [he]; exact hin
      have hfind' : (kc'.callSites.find? fun y => y.1 == m.idx && y.2.1 == pc) = some (i0, p0, .makes cK) := by rw [he]; exact hfind
      have hmade' := Lambda.isMade_warmer hW hmade
      have hjdk' : jdkName kc'.name = false := by rw [he]; exact hjdk
      have howes' : (U.vm.findClass σ.iface).bind (Lambda.owesInit U.vm) = none := by
        rw [hA.findClass]
        cases hfi : s.vm.findClass σ.iface with
        | none => rfl
        | some i => rw [hfi] at howes; simpa [Lambda.owesInit_alike hA] using howes
      have hany : ((Lambda.sitesOf kc').any fun y => decide (y = (m.idx, pc, index, σ))) = true := by simpa using hin'
      have hk'' : (s.setVm U.vm).vm.classes[m.cls]? = some kc' := hk'
      have howes'' : ((s.setVm U.vm).vm.findClass σ.iface).bind (Lambda.owesInit (s.setVm U.vm).vm) = none := howes'
      have hmade'' : Lambda.isMade { classPath := fun _ => none } (s.setVm U.vm).vm m.cls σ cK = true := hmade'
      simp [State.lambdaAt?, guard, hjdk', howes', hm', hk', hcf', hsh, hany, hfind', hcap, hmade', hcall']
  exact ls_vm (u := s.setVm U.vm) (U := U) rfl h1
