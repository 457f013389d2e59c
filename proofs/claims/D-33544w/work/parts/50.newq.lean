/-! 'anewarray' -/
section NEWQ
variable {p : Program} {l : Launch} {e : Env} {R : Room} {s : State} {m : MethodId} {args : Array Value} {below : List Frame} {meth : Method} {c : Code} {H : Heap} {locs : List Loc} {cells slots : Nat} {Q : State → Prop}
variable {cc : ByteArray} {nL pc index : Nat} {ls : Array Slot} {y : MethodName} {ret : Option FieldType} {g : GT} {rest : List Value}
theorem r_newq {C : String} {k N' : Nat} {n : Int32} (X : Cx p g s m args meth c cc nL y ret) (hcl : Cond.classLink y.cls index C ∈ lw_all) (hov : Cond.arrayOver (.object C) ∈ lw_tbl) (hk : (tysG g)[k]? = some (gA g k, .object C))
    (hn : ¬ n < 0) (hN : n.toNatClampNeg = N') (hbytes : N' * 4 ≤ 536870912) (hcells : cells + 1 ≤ R.cells) (hslots : slots + N' ≤ R.slots) (hdg : decode cc pc = .ok (.anewarray index, 3))
    (kk : ∀ H1 : Heap, Aq g H.size k N' (fun _ => none) H1 → Ext H H1 → H1.size = H.size + 1 → W p l e R s m args below meth c H1 locs (cells + 1) (slots + N') Q (F0 m (pc + 3) ls (.ref H.size :: rest))) : W p l e R s m args below meth c H locs cells slots Q (F0 m pc ls (.int n :: rest)) := by
  subst hN
  obtain ⟨hx, hb, hml, hown, hts, hrt, hlk, ⟨hKV, hB⟩, hnm⟩ := X
  have hgE : gE g < gLo g := by obtain ⟨-, -, -, -, -, -, -, -, -, -, -, -, h9, -⟩ := hKV; exact h9
  intro T hT XT
  have hne : H.size ≠ gE g := by
    obtain ⟨k1, -⟩ := vx_frame XT.same
    have k1 : s.heap.size ≤ T.heap.size := k1
    have := hB.1
    rw [hT] at k1; omega
  refine (?_ : W p l e R s m args below meth c H locs cells slots Q (F0 m pc ls (.int n :: rest))) T hT XT
  have hover : va_AO C s := hKV.2.1 _ (List.mem_filter.mpr ⟨hov, rfl⟩)
  refine W.anew hx hb hown (hts _ hcl) (va_AO.use hover) rfl hdg rfl hn hbytes hcells hslots fun cA kA comp f1 f2 f3 f4 => ?_
  obtain ⟨kA2, comp2, g2, g3, g4, g1⟩ := (hKV.1.2 k _ hk).2
  have hcA : cA = gA g k := Option.some.inj (f1.symm.trans g1)
  subst hcA
  generalize hH1 : H.push ({ cls := gA g k, slots := Array.replicate n.toNatClampNeg .null, vm := .none } : Cell) = H1
  have z1 : H1.size = H.size + 1 := by rw [← hH1, Array.size_push]
  have e1 : H1[H.size]? = some (arrV (gA g k) n.toNatClampNeg (fun _ => .null)) := by rw [← hH1, Array.getElem?_push_size, ← arrV_new]
  have o1 : ∀ q : Nat, q < H.size → H1[q]? = H[q]? := fun q hq => by rw [← hH1, Array.getElem?_push, if_neg (Nat.ne_of_lt hq)]
  exact kk H1 (Aq.mk hne (by show H1[H.size]? = some (vp_cell _ _); rw [vp_cell_q]; exact e1)) ⟨by omega, o1⟩ z1
end NEWQ
