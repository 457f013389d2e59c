/-! ROWS over arrays and numbers -/
def bI (b : Bool) : Int32 := if b then 1 else 0
theorem narrow_bI (b : Bool) : narrow .boolean (.int (bI b)) = .int (bI b) := by cases b <;> rfl
theorem nar_bI (b : Bool) : vp_nar .boolean (bI b) = bI b := by cases b <;> rfl
theorem bI_0 (b : Bool) : bI b = 0 ↔ b = false := by cases b <;> decide
theorem bI_n0 (b : Bool) : ¬ bI b = 0 ↔ b = true := by cases b <;> decide
section ROWSA
variable {p : Program} {l : Launch} {e : Env} {R : Room} {s : State} {m : MethodId} {args : Array Value} {below : List Frame} {meth : Method} {c : Code} {H : Heap} {locs : List Loc} {cells slots : Nat} {Q : State → Prop}
variable {cc : ByteArray} {nL pc : Nat} {ls : Array Slot} {y : MethodName} {ret : Option FieldType} {g : GT} {rest : List Value} {a n : Nat}
theorem r_ild {f : Nat → Int32} {x : Int32} (X : Cx p g s m args meth c cc nL y ret) (ha : Ar g a 0 n f H) (j : Nat) (hj : x.toNatClampNeg = j) (hx0 : ¬ x < 0) (hlt : j < n) (hdg : decode cc pc = .ok (.iaload, 1))
    (kk : W p l e R s m args below meth c H locs cells slots Q (F0 m (pc + 1) ls (.int (f j) :: rest))) : W p l e R s m args below meth c H locs cells slots Q (F0 m pc ls (.int x :: .ref a :: rest)) := by
  subst hj
  obtain ⟨hx, hb, hml, hown, hts, hrt, hlk, ⟨hKV, hB⟩, hnm⟩ := X
  exact va_iald hx hb hKV.1 (w1 (g := g) (x := (gA g 0, n, .inl f)) ha) 0 0 rfl rfl (fun h => h.elim hx0 (fun q => by omega)) hdg kk
theorem r_zld {f : Nat → Int32} {x : Int32} (X : Cx p g s m args meth c cc nL y ret) (ha : Ar g a 1 n f H) (j : Nat) (hj : x.toNatClampNeg = j) (hx0 : ¬ x < 0) (hlt : j < n) (hdg : decode cc pc = .ok (.baload, 1))
    (kk : W p l e R s m args below meth c H locs cells slots Q (F0 m (pc + 1) ls (.int (f j) :: rest))) : W p l e R s m args below meth c H locs cells slots Q (F0 m pc ls (.int x :: .ref a :: rest)) := by
  subst hj
  obtain ⟨hx, hb, hml, hown, hts, hrt, hlk, ⟨hKV, hB⟩, hnm⟩ := X
  exact va_zald hx hb hKV.1 (w1 (g := g) (x := (gA g 1, n, .inl f)) ha) 0 1 rfl rfl (fun h => h.elim hx0 (fun q => by omega)) hdg kk
theorem r_bld {f : Nat → Int32} {x : Int32} (X : Cx p g s m args meth c cc nL y ret) (ha : Ar g a 2 n f H) (j : Nat) (hj : x.toNatClampNeg = j) (hx0 : ¬ x < 0) (hlt : j < n) (hdg : decode cc pc = .ok (.baload, 1))
    (kk : W p l e R s m args below meth c H locs cells slots Q (F0 m (pc + 1) ls (.int (f j) :: rest))) : W p l e R s m args below meth c H locs cells slots Q (F0 m pc ls (.int x :: .ref a :: rest)) := by
  subst hj
  obtain ⟨hx, hb, hml, hown, hts, hrt, hlk, ⟨hKV, hB⟩, hnm⟩ := X
  exact va_bald hx hb hKV.1 (w1 (g := g) (x := (gA g 2, n, .inl f)) ha) 0 2 rfl rfl (fun h => h.elim hx0 (fun q => by omega)) hdg kk
theorem r_lld {f : Nat → Int64} {x : Int32} (X : Cx p g s m args meth c cc nL y ret) (ha : Al g a n f H) (j : Nat) (hj : x.toNatClampNeg = j) (hx0 : ¬ x < 0) (hlt : j < n) (hdg : decode cc pc = .ok (.laload, 1))
    (kk : W p l e R s m args below meth c H locs cells slots Q (F0 m (pc + 1) ls (.long (f j) :: rest))) : W p l e R s m args below meth c H locs cells slots Q (F0 m pc ls (.int x :: .ref a :: rest)) := by
  subst hj
  obtain ⟨hx, hb, hml, hown, hts, hrt, hlk, ⟨hKV, hB⟩, hnm⟩ := X
  exact va_lald hx hb hKV.1 (w1 (g := g) (x := (gA g 3, n, .inr (.inl f))) ha) 0 3 rfl rfl (fun h => h.elim hx0 (fun q => by omega)) hdg kk
theorem r_qld {f : Nat → Option Nat} {x : Int32} {k : Nat} {E : String} (X : Cx p g s m args meth c cc nL y ret) (ha : Aq g a k n f H) (hk : (tysG g)[k]? = some (gA g k, .object E)) (j : Nat) (hj : x.toNatClampNeg = j) (hx0 : ¬ x < 0) (hlt : j < n) (hdg : decode cc pc = .ok (.aaload, 1))
    (kk : W p l e R s m args below meth c H locs cells slots Q (F0 m (pc + 1) ls (va_rf (f j) :: rest))) : W p l e R s m args below meth c H locs cells slots Q (F0 m pc ls (.int x :: .ref a :: rest)) := by
  subst hj
  obtain ⟨hx, hb, hml, hown, hts, hrt, hlk, ⟨hKV, hB⟩, hnm⟩ := X
  exact va_aldq hx hb hKV.1 (w1 (g := g) (x := (gA g k, n, .inr (.inr (.inr (.inr f))))) (ha.cell (Or.inr (by omega))).2) 0 k rfl hk (fun h => h.elim hx0 (fun q => by omega)) hdg kk
theorem r_ist {f : Nat → Int32} {x v : Int32} (X : Cx p g s m args meth c cc nL y ret) (hL : ∀ q ∈ locs, gLo g ≤ q.base) (ha : Ar g a 0 n f H) (hlo : gLo g ≤ a) (j : Nat) (hj : x.toNatClampNeg = j) (hx0 : ¬ x < 0) (hlt : j < n) (hdg : decode cc pc = .ok (.iastore, 1))
    (kk : ∀ (H1 : Heap) (locs1 : List Loc), (∀ q ∈ locs1, gLo g ≤ q.base) → Ar g a 0 n (upd f j v) H1 → On a H H1 → W p l e R s m args below meth c H1 locs1 cells slots Q (F0 m (pc + 1) ls rest)) : W p l e R s m args below meth c H locs cells slots Q (F0 m pc ls (.int v :: .int x :: .ref a :: rest)) := by
  subst hj
  obtain ⟨hx, hb, hml, hown, hts, hrt, hlk, ⟨hKV, hB⟩, hnm⟩ := X
  refine W.iast hx hb ha ((hKV.1.2 0 _ rfl).1 n (fun j => .int (f j))) (fun q => by cases q) (by show ¬ (x < 0 ∨ (arrV _ _ _).slots.size ≤ _); rw [arrV_size]; exact fun h => h.elim hx0 (fun q => by omega)) rfl rfl hdg fun H1 e z oq => ?_
  refine kk H1 _ (lo_app hL hlo) ?_ ⟨z, oq⟩
  show H1[a]? = some (vp_cell _ _)
  rw [e, vp_cell_i, vp_cell_i, arrV_store]
  congr 2
  funext q
  by_cases hq : q = x.toNatClampNeg
  · subst hq; simp [updV, upd]
  · simp [updV, upd, hq]
theorem r_zst {f : Nat → Int32} {x v : Int32} (X : Cx p g s m args meth c cc nL y ret) (hL : ∀ q ∈ locs, gLo g ≤ q.base) (ha : Ar g a 1 n f H) (hlo : gLo g ≤ a) (j : Nat) (hj : x.toNatClampNeg = j) (hx0 : ¬ x < 0) (hlt : j < n) (hv : vp_nar .boolean v = v) (hdg : decode cc pc = .ok (.bastore, 1))
    (kk : ∀ (H1 : Heap) (locs1 : List Loc), (∀ q ∈ locs1, gLo g ≤ q.base) → Ar g a 1 n (upd f j v) H1 → On a H H1 → W p l e R s m args below meth c H1 locs1 cells slots Q (F0 m (pc + 1) ls rest)) : W p l e R s m args below meth c H locs cells slots Q (F0 m pc ls (.int v :: .int x :: .ref a :: rest)) := by
  subst hj
  obtain ⟨hx, hb, hml, hown, hts, hrt, hlk, ⟨hKV, hB⟩, hnm⟩ := X
  have hv' : narrow .boolean (.int v) = .int v := by
    have h : narrow .boolean (.int v) = .int (vp_nar .boolean v) := by simp [vp_nar, narrow]
    rw [h, hv]
  refine W.zast hx hb ha ((hKV.1.2 1 _ rfl).1 n (fun j => .int (f j))) (fun q => by cases q) (by show ¬ (x < 0 ∨ (arrV _ _ _).slots.size ≤ _); rw [arrV_size]; exact fun h => h.elim hx0 (fun q => by omega)) rfl rfl hdg fun H1 e z oq => ?_
  refine kk H1 _ (lo_app hL hlo) ?_ ⟨z, oq⟩
  show H1[a]? = some (vp_cell _ _)
  rw [e, vp_cell_i, vp_cell_i, arrV_store]
  congr 2
  funext q
  by_cases hq : q = x.toNatClampNeg
  · subst hq; simp [updV, upd, hv']
  · simp [updV, upd, hq]
theorem r_bst {f : Nat → Int32} {x v : Int32} (X : Cx p g s m args meth c cc nL y ret) (hL : ∀ q ∈ locs, gLo g ≤ q.base) (ha : Ar g a 2 n f H) (hlo : gLo g ≤ a) (j : Nat) (hj : x.toNatClampNeg = j) (hx0 : ¬ x < 0) (hlt : j < n) (hdg : decode cc pc = .ok (.bastore, 1))
    (kk : ∀ (H1 : Heap) (locs1 : List Loc), (∀ q ∈ locs1, gLo g ≤ q.base) → Ar g a 2 n (upd f j (vp_nar .byte v)) H1 → On a H H1 → W p l e R s m args below meth c H1 locs1 cells slots Q (F0 m (pc + 1) ls rest)) : W p l e R s m args below meth c H locs cells slots Q (F0 m pc ls (.int v :: .int x :: .ref a :: rest)) := by
  subst hj
  obtain ⟨hx, hb, hml, hown, hts, hrt, hlk, ⟨hKV, hB⟩, hnm⟩ := X
  refine W.bast hx hb ha ((hKV.1.2 2 _ rfl).1 n (fun j => .int (f j))) (fun q => by cases q) (by show ¬ (x < 0 ∨ (arrV _ _ _).slots.size ≤ _); rw [arrV_size]; exact fun h => h.elim hx0 (fun q => by omega)) rfl rfl hdg fun H1 e z oq => ?_
  refine kk H1 _ (lo_app hL hlo) ?_ ⟨z, oq⟩
  show H1[a]? = some (vp_cell _ _)
  rw [e, vp_cell_i, vp_cell_i, arrV_store]
  congr 2
  funext q
  by_cases hq : q = x.toNatClampNeg
  · subst hq
    simp [updV, upd, vp_nar]
    try rfl
  · simp [updV, upd, hq]
theorem r_lst {f : Nat → Int64} {x : Int32} {v : Int64} (X : Cx p g s m args meth c cc nL y ret) (hL : ∀ q ∈ locs, gLo g ≤ q.base) (ha : Al g a n f H) (hlo : gLo g ≤ a) (j : Nat) (hj : x.toNatClampNeg = j) (hx0 : ¬ x < 0) (hlt : j < n) (hdg : decode cc pc = .ok (.lastore, 1))
    (kk : ∀ (H1 : Heap) (locs1 : List Loc), (∀ q ∈ locs1, gLo g ≤ q.base) → Al g a n (vp_updL f j v) H1 → On a H H1 → W p l e R s m args below meth c H1 locs1 cells slots Q (F0 m (pc + 1) ls rest)) : W p l e R s m args below meth c H locs cells slots Q (F0 m pc ls (.long v :: .int x :: .ref a :: rest)) := by
  subst hj
  obtain ⟨hx, hb, hml, hown, hts, hrt, hlk, ⟨hKV, hB⟩, hnm⟩ := X
  refine W.last hx hb ha ((hKV.1.2 3 _ rfl).1 n (fun j => .long (f j))) (fun q => by cases q) (by show ¬ (x < 0 ∨ (arrV _ _ _).slots.size ≤ _); rw [arrV_size]; exact fun h => h.elim hx0 (fun q => by omega)) rfl rfl hdg fun H1 e z oq => ?_
  refine kk H1 _ (lo_app hL hlo) ?_ ⟨z, oq⟩
  show H1[a]? = some (vp_cell _ _)
  rw [e, vp_cell_l, vp_cell_l, arrV_store]
  congr 2
  funext q
  by_cases hq : q = x.toNatClampNeg
  · subst hq; simp [updV, vp_updL]
  · simp [updV, vp_updL, hq]
/-- a reference into an array of references -/
theorem r_qst {f : Nat → Option Nat} {x : Int32} {k v ci : Nat} {fs : List Value} {r : vw_C} {E : String} (X : Cx p g s m args meth c cc nL y ret) (hL : ∀ q ∈ locs, gLo g ≤ q.base) (ha : Aq g a k n f H) (hk : (tysG g)[k]? = some (gA g k, .object E)) (hv : Ob g v ci fs H) (hc : vwCl[ci]? = some r) (hcast : r.1 = E ∨ Cond.castable r.1 E ∈ lw_tbl) (hlo : gLo g ≤ a) (j : Nat) (hj : x.toNatClampNeg = j) (hx0 : ¬ x < 0) (hlt : j < n) (hdg : decode cc pc = .ok (.aastore, 1))
    (kk : ∀ (H1 : Heap) (locs1 : List Loc), (∀ q ∈ locs1, gLo g ≤ q.base) → Aq g a k n (va_up f j (some v)) H1 → On a H H1 → W p l e R s m args below meth c H1 locs1 cells slots Q (F0 m (pc + 1) ls rest)) : W p l e R s m args below meth c H locs cells slots Q (F0 m pc ls (.ref v :: .int x :: .ref a :: rest)) := by
  subst hj
  obtain ⟨hx, hb, hml, hown, hts, hrt, hlk, ⟨hKV, hB⟩, hnm⟩ := X
  obtain ⟨hne, ha⟩ := ha.cell (Or.inr (by omega))
  obtain ⟨cellV, g1, g3, hcls⟩ := hv.recv hKV hc
  obtain ⟨kC, hkC, -⟩ := Vm.findClass_spec hcls
  obtain ⟨kA, comp, k1, k2, k3, -⟩ := (hKV.1.2 k _ hk).2
  obtain ⟨kE, hkE, -⟩ := Vm.findClass_spec k3
  have hasg : s.vm.assignable cellV.cls comp = true := by
    rcases hcast with hE | hw
    · have hcc : cellV.cls = comp := Option.some.inj (hcls.symm.trans (by rw [hE]; exact k3))
      rw [← hcc]
      have hca := (hKV.1.1 ci r hc).2
      have e1 : (gD g).1 ci = cellV.cls := Option.some.inj (hca.1.symm.trans hcls)
      rw [← e1]
      exact va_assign hca
    · obtain ⟨c3, t3, w1, w2, w3⟩ := Cond.castable_spec (hKV.2.1 _ (List.mem_filter.mpr ⟨hw, rfl⟩))
      cases hcls.symm.trans w1
      cases k3.symm.trans w2
      exact w3
  refine W.aast hx hb ha (fun q h => by cases h) (fun h => by cases h) k1 k2 rfl hkE ⟨hx0, by show _ < (arrV _ _ _).slots.size; rw [arrV_size]; exact hlt⟩ g1 (fun q h => by rw [h] at g3; cases g3) hkC hasg rfl rfl hdg fun H1 e z oq => ?_
  refine kk H1 _ (lo_app hL hlo) (Aq.mk hne ?_) ⟨z, oq⟩
  show H1[a]? = some (vp_cell _ _)
  rw [e, vp_cell_q, vp_cell_q, arrV_store]
  congr 2
  funext q
  by_cases hq : q = x.toNatClampNeg
  · subst hq; simp [updV, va_up, va_rf]
  · simp [updV, va_up, hq]
/-- null into an array of references -/
theorem r_qst0 {f : Nat → Option Nat} {x : Int32} {k : Nat} {E : String} (X : Cx p g s m args meth c cc nL y ret) (hL : ∀ q ∈ locs, gLo g ≤ q.base) (ha : Aq g a k n f H) (hk : (tysG g)[k]? = some (gA g k, .object E)) (hlo : gLo g ≤ a) (j : Nat) (hj : x.toNatClampNeg = j) (hx0 : ¬ x < 0) (hlt : j < n) (hdg : decode cc pc = .ok (.aastore, 1))
    (kk : ∀ (H1 : Heap) (locs1 : List Loc), (∀ q ∈ locs1, gLo g ≤ q.base) → Aq g a k n (va_up f j none) H1 → On a H H1 → W p l e R s m args below meth c H1 locs1 cells slots Q (F0 m (pc + 1) ls rest)) : W p l e R s m args below meth c H locs cells slots Q (F0 m pc ls (.null :: .int x :: .ref a :: rest)) := by
  subst hj
  obtain ⟨hx, hb, hml, hown, hts, hrt, hlk, ⟨hKV, hB⟩, hnm⟩ := X
  obtain ⟨hne, ha⟩ := ha.cell (Or.inr (by omega))
  refine va_WaastN (C := E) hx hb ha ((hKV.1.2 k _ hk).1 n (fun j => va_rf (f j))) (fun h => by cases h) (by show ¬ (x < 0 ∨ (arrV _ _ _).slots.size ≤ _); rw [arrV_size]; exact fun h => h.elim hx0 (fun q => by omega)) rfl rfl hdg fun H1 e z oq => ?_
  refine kk H1 _ (lo_app hL hlo) (Aq.mk hne ?_) ⟨z, oq⟩
  show H1[a]? = some (vp_cell _ _)
  rw [e, vp_cell_q, vp_cell_q, arrV_store]
  congr 2
  funext q
  by_cases hq : q = x.toNatClampNeg
  · subst hq; simp [updV, va_up, va_rf]
  · simp [updV, va_up, hq]
theorem r_len {k : Nat} {ty : FieldType} {A0 : vp_A} {v : Int32} (X : Cx p g s m args meth c cc nL y ret) (ha : H[a]? = some (vp_cell (gA g k) A0)) (hk : (tysG g)[k]? = some (gA g k, ty)) (hv : nI A0.1 = v) (hdg : decode cc pc = .ok (.arraylength, 1))
    (kk : W p l e R s m args below meth c H locs cells slots Q (F0 m (pc + 1) ls (.int v :: rest))) : W p l e R s m args below meth c H locs cells slots Q (F0 m pc ls (.ref a :: rest)) := by
  obtain ⟨hx, hb, hml, hown, hts, hrt, hlk, ⟨hKV, hB⟩, hnm⟩ := X
  exact va_alen hx hb hKV.1 (w1 (g := g) (x := (gA g k, A0)) ha) 0 k rfl hk hv hdg kk
/-- the length of an array of references -/
theorem r_lenq {k : Nat} {ty : FieldType} {f : Nat → Option Nat} {v : Int32} (X : Cx p g s m args meth c cc nL y ret) (ha : Aq g a k n f H) (hk : (tysG g)[k]? = some (gA g k, ty)) (hv : nI n = v) (hdg : decode cc pc = .ok (.arraylength, 1))
    (kk : W p l e R s m args below meth c H locs cells slots Q (F0 m (pc + 1) ls (.int v :: rest))) : W p l e R s m args below meth c H locs cells slots Q (F0 m pc ls (.ref a :: rest)) := by
  obtain ⟨hx, hb, hml, hown, hts, hrt, hlk, ⟨hKV, hB⟩, hnm⟩ := X
  obtain ⟨ce, h1, h2, h3, h4, h5⟩ := ha.gen
  obtain ⟨-, kA, g1, comp, g2⟩ := (hKV.1.2 k _ hk).1 n (fun j => va_rf (f j))
  have hAr : s.isArrayOf ce ty := ⟨h5, kA, by rw [h2]; exact g1, comp, g2⟩
  have hsz : Int32.ofNat ce.slots.size = nI n := by
    rcases h3 with h3 | ⟨h3, h6⟩
    · rw [h3, vp_cell_q, arrV_size]; rfl
    · rw [h6, h3]; rfl
  subst hv
  exact W.alen (n := nI n) hx hb h1 hAr hsz rfl rfl hdg kk
/-- 'new' -/
theorem r_new {C : String} {T : u_T} {N ci index : Nat} (X : Cx p g s m args meth c cc nL y ret) (hin : ∀ w ∈ u_ws C T N, w ∈ lw_all) (ty : Nat → FieldType) (hty : ∀ k, k < N → parseFieldDescriptor (T k).2.2.1 = some (ty k)) (hcl : Cond.classLink y.cls index C ∈ lw_all) (hinst : Cond.instantiable C N ∈ lw_all) (hini : Cond.initialized C ∈ lw_all) (hc : vwCl[ci]? = some (C, T, N)) {fs : List Value} (hfs : ∀ j, j < N → defaultValue (ty j) = vp_V fs j) (hcells : cells + 1 ≤ R.cells) (hslots : slots + N ≤ R.slots) (hdg : decode cc pc = .ok (.new index, 3))
    (kk : ∀ (H1 : Heap), Ob g H.size ci fs H1 → Ext H H1 → H1.size = H.size + 1 → W p l e R s m args below meth c H1 locs (cells + 1) (slots + N) Q (F0 m (pc + 3) ls (.ref H.size :: rest))) : W p l e R s m args below meth c H locs cells slots Q (F0 m pc ls rest) := by
  obtain ⟨hx, hb, hml, hown, hts, hrt, hlk, ⟨hKV, hB⟩, hnm⟩ := X
  have hKn := hKV.1.1 ci _ hc
  refine W.newcK hx hb hown (hts _ hcl) (hts _ hinst) (hts _ hini) rfl hdg hcells hslots hKn.2.1 rfl fun H1 kC hkC e1 z1 o1 => ?_
  exact kk H1 ⟨_, hc, (u_born ty hts hin hKn hkC e1 hty).to hfs⟩ ⟨by omega, o1⟩ z1
/-- 'newarray' -/
theorem r_newa {atype : ArrayType} {k : Nat} {ty : FieldType} (X : Cx p g s m args meth c cc nL y ret) (harr : Cond.arrayClass (newarray.typeOf atype) ∈ lw_all) (hty : newarray.typeOf atype = ty) (hk : (tysG g)[k]? = some (gA g k, ty)) (hra : ∀ U cA, va_RA U cA ty = (U.vm.findClass ("[" ++ ty.toString) = some cA)) {x : Int32} {N' : Nat} (a0 : vp_A) (h0 : ∀ cA : ClassId, vp_cell cA a0 = arrV cA N' (fun _ => defaultValue ty)) (hn : ¬ x < 0) (hN : x.toNatClampNeg = N') (hbytes : N' * componentBytes ty ≤ 536870912) (hcells : cells + 1 ≤ R.cells) (hslots : slots + N' ≤ R.slots) (hdg : decode cc pc = .ok (.newarray atype, 2))
    (kk : ∀ (H1 : Heap), H1[H.size]? = some (vp_cell (gA g k) a0) → Ext H H1 → H1.size = H.size + 1 → W p l e R s m args below meth c H1 locs (cells + 1) (slots + N') Q (F0 m (pc + 2) ls (.ref H.size :: rest))) : W p l e R s m args below meth c H locs cells slots Q (F0 m pc ls (.int x :: rest)) := by
  subst hty
  obtain ⟨hx, hb, hml, hown, hts, hrt, hlk, ⟨hKV, hB⟩, hnm⟩ := X
  refine va_newaK hx hb (hts _ harr) rfl hdg rfl hn hN hbytes hcells hslots rfl fun H1 cA e1 z1 o1 hAr hNm => ?_
  have hq := (hKV.1.2 k _ hk).2
  rw [hra] at hq
  have hcA : cA = gA g k := Option.some.inj (hNm.symm.trans hq)
  subst hcA
  exact kk H1 (by rw [h0]; exact e1) ⟨by omega, o1⟩ z1
end ROWSA
