/-! casts to the own class, clones -/
section ROWS3
variable {p : Program} {l : Launch} {e : Env} {R : Room} {s : State} {m : MethodId} {args : Array Value} {below : List Frame} {meth : Method} {c : Code} {H : Heap} {locs : List Loc} {cells slots mc ms d : Nat} {Q : State → Prop}
variable {cc : ByteArray} {nL pc index a : Nat} {ls : Array Slot} {y : MethodName} {ret : Option FieldType} {g : GT} {rest : List Value} {lv : List (Nat × Value)}
theorem r_cast {C : String} {T : u_T} {N ci : Nat} {fs : List Value} (X : Cx p g s m args meth c cc nL y ret) (hc : vwCl[ci]? = some (C, T, N)) (ho : Ob g a ci fs H) (hlink : Cond.classLink y.cls index C ∈ lw_all) (hdg : decode cc pc = .ok (.checkcast index, 3))
    (kk : W p l e R s m args below meth c H locs cells slots Q (F0 m (pc + 3) ls (.ref a :: rest))) : W p l e R s m args below meth c H locs cells slots Q (F0 m pc ls (.ref a :: rest)) := by
  obtain ⟨hx, hb, hml, hown, hts, hrt, hlk, ⟨hKV, hB⟩, hnm⟩ := X
  obtain ⟨cell, h1, h2, h3⟩ := ho.recv hKV hc
  intro T hT XT
  obtain ⟨vm', X', st⟩ := XT.checkcastYes hx hown (hts _ hlink) (by rw [hT]; exact h1) h2 h3 (va_asg _ _) (g := F0 m pc ls (.ref a :: rest)) rfl rfl (by rw [hb]; exact hdg)
  obtain ⟨t, a1, b1⟩ := kk (T.setVm vm') hT X'
  exact ⟨t, st t a1, b1⟩
theorem r_castI {n : Nat} {f : Nat → Int32} (X : Cx p g s m args meth c cc nL y ret) (ho : Ar g a 0 n f H) (hlink : Cond.classLink y.cls index "[I" ∈ lw_all) (hdg : decode cc pc = .ok (.checkcast index, 3))
    (kk : W p l e R s m args below meth c H locs cells slots Q (F0 m (pc + 3) ls (.ref a :: rest))) : W p l e R s m args below meth c H locs cells slots Q (F0 m pc ls (.ref a :: rest)) := by
  obtain ⟨hx, hb, hml, hown, hts, hrt, hlk, ⟨hKV, hB⟩, hnm⟩ := X
  have hnm0 : s.vm.findClass "[I" = some (gA g 0) := va_nm_int (hKV.1.2 0 _ rfl).2
  intro T hT XT
  obtain ⟨vm', X', st⟩ := XT.checkcastYes hx hown (hts _ hlink) (by rw [hT]; exact ho) rfl hnm0 (va_asg _ _) (g := F0 m pc ls (.ref a :: rest)) rfl rfl (by rw [hb]; exact hdg)
  obtain ⟨t, a1, b1⟩ := kk (T.setVm vm') hT X'
  exact ⟨t, st t a1, b1⟩
theorem r_clone {n : Nat} {f : Nat → Int32} (X : Cx p g s m args meth c cc nL y ret) (hl : lv_has ls nL lv) (ha : Ar g a 0 n f H) (hlink : Cond.methodLink y.cls index ⟨"[I", "clone", "()Ljava/lang/Object;"⟩ ∈ lw_all) (hW : (rest.map fun v => v.category).sum ≤ 8) (hd : 1 ≤ d) (hcells : cells + 1 ≤ mc) (hslots : slots + n ≤ ms) (hdg : decode cc pc = .ok (.invokevirtual index, 3))
    (kk : ∀ H1 : Heap, Ar g H.size 0 n f H1 → Ext H H1 → H1.size = H.size + 1 → W p l e (rmL d mc ms) s m args below meth c H1 locs (cells + 1) (slots + n) Q (F0 m (pc + 3) ls (.ref H.size :: rest))) : W p l e (rmL d mc ms) s m args below meth c H locs cells slots Q (F0 m pc ls (.ref a :: rest)) := by
  obtain ⟨hx, hb, hml, hown, hts, hrt, hlk, ⟨hKV, hB⟩, hnm⟩ := X
  have hnm0 : s.vm.findClass "[I" = some (gA g 0) := va_nm_int (hKV.1.2 0 _ rfl).2
  have hsz : (vp_cell (gA g 0) (n, .inl f)).slots.size = n := arrV_size _ _ _
  have hcellE : ({ cls := (vp_cell (gA g 0) (n, .inl f)).cls, slots := (vp_cell (gA g 0) (n, .inl f)).slots } : Cell) = vp_cell (gA g 0) (n, .inl f) := rfl
  obtain ⟨c0, t0', f1, f2, f3⟩ := Cond.castable_spec (va_Nw.use (A := args) rfl (hKV.2.1 _ (List.mem_filter.mpr ⟨q433, rfl⟩)))
  cases hnm0.symm.trans f1
  intro T hT XT
  have hcellT : T.heap[a]? = some (vp_cell (gA g 0) (n, .inl f)) := by rw [hT]; exact ha
  have hA := (hKV.1.2 0 _ rfl).1
  obtain ⟨-, kA, hkA, comp, hkind⟩ := State.isArrayOf_alike XT.warmed.alike (hA 0 (fun _ => .null))
  obtain ⟨-, kS, hkS, compS, hkindS⟩ := hA 0 (fun _ => .null)
  obtain ⟨vm', X', st⟩ := XT.cloneArray hx hown (hts _ hlink) (hts _ q429) (hts _ q430) (hts _ q431) (hts _ q432) (a := a) (cell := vp_cell (gA g 0) (n, .inl f)) hcellT (fun k h => by cases h) (fun h => by cases h) hnm0 f2 f3
    (fun i v hv => by
      have hk' : T.vm.classes[gA g 0]? = some kA := hkA
      have hv' : fits .int v = true := va_fit (cA := gA g 0) (n := n) (F := fun j => .int (f j)) (fun _ _ => rfl) i v hv
      simpa [State.fitsSlot, State.slotType?, vp_cell, arrV, hk', hkind] using hv')
    (g := F0 m pc ls (.ref a :: rest)) rfl (hl.1.trans hml.symm) rfl (by rw [hb]; exact hdg) hd (by show 2 * 0 + _ + 14 ≤ 4096 + 64 * d; omega) hcells (by rw [hsz]; exact hslots) (hloader := Vm.clonesLoader_of_array hkS hkindS)
  rw [hcellE, hsz] at X'
  generalize hH1 : H.push (vp_cell (gA g 0) (n, .inl f)) = H1
  have z1 : H1.size = H.size + 1 := by rw [← hH1, Array.size_push]
  have e1 : H1[H.size]? = some (vp_cell (gA g 0) (n, .inl f)) := by rw [← hH1, Array.getElem?_push_size]
  have o1 : ∀ q : Nat, q < H.size → H1[q]? = H[q]? := fun q hq => by rw [← hH1, Array.getElem?_push, if_neg (Nat.ne_of_lt hq)]
  obtain ⟨t, b1, b2⟩ := kk H1 e1 ⟨by omega, o1⟩ z1 ((T.setVm vm').pushCell (vp_cell (gA g 0) (n, .inl f))) (by rw [← hH1, ← hT]; rfl) X'
  refine ⟨t, st t ?_, b2⟩
  rw [hcellE, hT]
  exact b1
end ROWS3
