/-! System.arraycopy between arrays of references -/
section ACOPY
variable {p : Program} {l : Launch} {e : Env} {s : State} {m : MethodId} {args : Array Value} {below : List Frame} {meth : Method} {c : Code} {H : Heap} {locs : List Loc} {cells slots mc ms d : Nat} {Q : State → Prop}
variable {cc : ByteArray} {nL pc index : Nat} {ls : Array Slot} {y : MethodName} {ret : Option FieldType} {g : GT} {rest : List Value} {lv : List (Nat × Value)}
theorem r_copyq {f h : Nat → Option Nat} {k a0 a n0 n1 : Nat} {E : String} {sp dp n : Int32} (X : Cx p g s m args meth c cc nL y ret) (hl : lv_has ls nL lv) (hL : ∀ q ∈ locs, gLo g ≤ q.base) (hc0 : Aq g a0 k n0 f H) (hc1 : Aq g a k n1 h H) (hk : (tysG g)[k]? = some (gA g k, .object E)) (hlo : gLo g ≤ a)
    (hlink : Cond.methodLink y.cls index arraycopyName ∈ lw_all) (hnat : Cond.native arraycopyName ∈ lw_all) (hstat : Cond.static arraycopyName ∈ lw_all) (hini : Cond.initialized "java/lang/System" ∈ lw_all)
    (h1 : ¬ sp < 0) (h2 : ¬ dp < 0) (h3 : ¬ n < 0) (h4 : sp.toNatClampNeg + n.toNatClampNeg ≤ n0) (h5 : dp.toNatClampNeg + n.toNatClampNeg ≤ n1) (hel : ∀ i : Nat, i < n.toNatClampNeg → ∀ y : Nat, f (sp.toNatClampNeg + i) = some y → ∃ (ci : Nat) (fs : List Value) (r : vw_C), Ob g y ci fs H ∧ vwCl[ci]? = some r ∧ Cond.castable r.1 E ∈ lw_tbl)
    (hw : (rest.map fun v => v.category).sum ≤ 8) (hd : 1 ≤ d) (hdg : decode cc pc = .ok (.invokestatic index, 3))
    (kk : ∀ (H1 : Heap) (locs1 : List Loc), (∀ q ∈ locs1, gLo g ≤ q.base) → Aq g a k n1 (va_cpy f h sp.toNatClampNeg dp.toNatClampNeg n.toNatClampNeg) H1 → On a H H1 → W p l e (rmL d mc ms) s m args below meth c H1 locs1 cells slots Q (F0 m (pc + 3) ls rest)) : W p l e (rmL d mc ms) s m args below meth c H locs cells slots Q (F0 m pc ls (.int n :: .int dp :: .ref a :: .int sp :: .ref a0 :: rest)) := by
  obtain ⟨hx, hb, hml, hown, hts, hrt, hlk, ⟨hKV, hB⟩, hnm⟩ := X
  have nn : ∀ z : Int32, ¬ z < 0 → z.toInt = (z.toNatClampNeg : Int) := by
    intro z hz
    have hz0 : (0 : Int) ≤ z.toInt := by
      have := Int32.not_lt.mp hz
      simpa using Int32.le_iff_toInt_le.mp this
    show z.toInt = ((z.toInt.toNat : Nat) : Int)
    omega
  have hnf : nativeFrameWords "java/lang/System" "arraycopy" 5 ≤ 1000 := by decide
  intro T hT XT
  obtain ⟨-, k0, hk0, cm0, hkk0⟩ := (hKV.1.2 k _ hk).1 n0 (fun j => va_rf (f j))
  obtain ⟨-, k1, hk1, cm1, hkk1⟩ := (hKV.1.2 k _ hk).1 n1 (fun j => va_rf (h j))
  have hgE : gE g < gLo g := by obtain ⟨-, -, -, -, -, -, -, -, -, -, -, -, h9, -⟩ := hKV; exact h9
  obtain ⟨hne1, hc1⟩ := hc1.cell (Or.inl (by omega))
  obtain ⟨cs, hcs, cs1, cs2, cs3, cs4⟩ := hc0.gen
  have cs5 : ¬ ((sp.toNatClampNeg : Int) + (n.toNatClampNeg : Int) > (cs.slots.size : Int)) := by
    rcases cs2 with z | ⟨z, -⟩
    · rw [z]; show ¬ _ > ((arrV (gA g k) n0 (fun j => va_rf (f j))).slots.size : Int); rw [arrV_size]; omega
    · omega
  obtain ⟨vm', X', step⟩ := XT.arraycopy hx hown (hts _ hlink) (hts _ hnat) (hts _ hstat) (hts _ hini) (src := a0) (dst := a) (cs := cs) (cd := vp_cell (gA g k) (n1, .inr (.inr (.inr (.inr h))))) (srcPos := sp) (destPos := dp) (n := n) (by rw [hT]; exact hcs) (by rw [hT]; exact hc1)
    cs4 (fun _ h => by cases h) cs3 (fun h => by cases h) (by rw [cs1]; exact hk0) hk1 hkk0 hkk1 rfl h1 h2 h3
    (by rw [nn sp h1, nn n h3]; exact cs5)
    (by rw [nn dp h2, nn n h3]; show ¬ _ > ((arrV (gA g k) n1 (fun j => va_rf (h j))).slots.size : Int); rw [arrV_size]; omega)
    (fun vm₁ hal i hi => by
      have e : (vp_cell (gA g k) (n0, .inr (.inr (.inr (.inr f))))).slots.getD (sp.toNatClampNeg + i) .null = va_rf (f (sp.toNatClampNeg + i)) := by
        show (arrV (gA g k) n0 (fun j => va_rf (f j))).slots.getD _ _ = _
        rw [Array.getD_eq_getD_getElem?, arrV_read _ _ (by omega)]
        rfl
      rw [show cs.slots.getD (sp.toNatClampNeg + i) .null = (vp_cell (gA g k) (n0, .inr (.inr (.inr (.inr f))))).slots.getD (sp.toNatClampNeg + i) .null from cs2.elim (fun z => by rw [z]) (fun z => by omega), e]
      cases hy : f (sp.toNatClampNeg + i) with
      | none => exact ⟨rfl, trivial⟩
      | some y =>
        obtain ⟨ci, fs, r, hv, hc, hcw⟩ := hel i hi y hy
        obtain ⟨cellV, g1, g2, hcls⟩ := hv.recv hKV hc
        obtain ⟨kC, hkC, -⟩ := Vm.findClass_spec hcls
        obtain ⟨kA, comp, r1, r2, r3, -⟩ := (hKV.1.2 k _ hk).2
        have hasg : s.vm.assignable cellV.cls comp = true := by
          obtain ⟨c3, t3, w1, w2, w3⟩ := Cond.castable_spec (hKV.2.1 _ (List.mem_filter.mpr ⟨hcw, rfl⟩))
          cases hcls.symm.trans w1
          cases r3.symm.trans w2
          exact w3
        cases hk1.symm.trans r1
        cases hkk1.symm.trans r2
        obtain ⟨kE, hkE, -⟩ := Vm.findClass_spec r3
        obtain ⟨kC', hkC', -⟩ := hal.2.2 _ _ hkC
        obtain ⟨kE', hkE', -⟩ := hal.2.2 _ _ hkE
        refine ⟨rfl, cellV, (show T.heap[y]? = some cellV by rw [hT]; exact g1), (fun q h => by rw [h] at g2; cases g2), ⟨kC', hkC'⟩, ?_, ?_⟩
        · exact ⟨kE', hkE'⟩
        · show vm₁.assignable _ _ = true
          rw [hal.assignable]
          exact hasg)
    (g := F0 m pc ls (.int n :: .int dp :: .ref a :: .int sp :: .ref a0 :: rest)) rfl (by first | exact hl.1.trans hml.symm | exact hml.trans hl.1.symm) (rest := rest) rfl (by rw [hb]; exact hdg) hd (by show 2 * 0 + _ + (nativeFrameWords "java/lang/System" "arraycopy" 5 + 11) ≤ 4096 + 64 * d; omega)
  have e1 : copied (vp_cell (gA g k) (n0, .inr (.inr (.inr (.inr f))))) (vp_cell (gA g k) (n1, .inr (.inr (.inr (.inr h))))) sp dp n = vp_cell (gA g k) (n1, .inr (.inr (.inr (.inr (va_cpy f h sp.toNatClampNeg dp.toNatClampNeg n.toNatClampNeg))))) := by
    rw [vp_cell_q, vp_cell_q, vp_cell_q]
    exact va_copied (fun z => va_rf z) (gA g k) (gA g k) f h h4
  rw [show copied cs (vp_cell (gA g k) (n1, .inr (.inr (.inr (.inr h))))) sp dp n = copied (vp_cell (gA g k) (n0, .inr (.inr (.inr (.inr f))))) (vp_cell (gA g k) (n1, .inr (.inr (.inr (.inr h))))) sp dp n from cs2.elim (fun z => by rw [z]) (fun z => by have hz : n.toNatClampNeg = 0 := by omega
                                                                                                 simp only [copied, Cell.stretch, hz, List.range_zero, List.map_nil]), e1] at X' step
  have hl1 : a < H.size := (Array.getElem?_eq_some_iff.mp hc1).1
  have hheap : ((T.setVm vm').setCell a (vp_cell (gA g k) (n1, .inr (.inr (.inr (.inr (va_cpy f h sp.toNatClampNeg dp.toNatClampNeg n.toNatClampNeg))))))).heap = H.setIfInBounds a (vp_cell (gA g k) (n1, .inr (.inr (.inr (.inr (va_cpy f h sp.toNatClampNeg dp.toNatClampNeg n.toNatClampNeg)))))) := by rw [← hT]; rfl
  obtain ⟨t, a1, b1⟩ := kk _ _ (fun q hq => by
      rcases List.mem_append.mp hq with z | z
      · exact hL q z
      · obtain ⟨w, -, hz⟩ := List.mem_map.mp z
        rw [← hz]; exact hlo) (Aq.mk hne1 (show (H.setIfInBounds a _)[a]? = some _ by simp [Array.getElem?_setIfInBounds, hl1])) ⟨by simp, fun q hq => by simp [Array.getElem?_setIfInBounds, Ne.symm hq]⟩ _ hheap X'
  exact ⟨t, step t a1, b1⟩
end ACOPY
