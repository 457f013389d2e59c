/-! ROWS over single cells -/
def Ob (g : GT) (a ci : Nat) (fs : List Value) (H : Heap) : Prop := va_at (gD g) vwCl (a, .inr (ci, fs)) H
def Ar (g : GT) (a k n : Nat) (f : Nat → Int32) (H : Heap) : Prop := H[a]? = some (vp_cell (gA g k) (n, .inl f))
def Al (g : GT) (a n : Nat) (f : Nat → Int64) (H : Heap) : Prop := H[a]? = some (vp_cell (gA g 3) (n, .inr (.inl f)))
/-- an array of references; of the empty one of all empty lists no more is known than its class and that it is empty -/
def Aq (g : GT) (a k n : Nat) (f : Nat → Option Nat) (H : Heap) : Prop := ∃ ce : Cell, H[a]? = some ce ∧ (a ≠ gE g → ce = vp_cell (gA g k) (n, .inr (.inr (.inr (.inr f))))) ∧ (a = gE g → n = 0 ∧ ce.cls = gA g k ∧ Int32.ofNat ce.slots.size = 0 ∧ ce.vm ≠ .unknown ∧ ce.vm.isStatics = false)
theorem Aq.mk {g : GT} {a k n : Nat} {f : Nat → Option Nat} {H : Heap} (hne : a ≠ gE g) (h : H[a]? = some (vp_cell (gA g k) (n, .inr (.inr (.inr (.inr f)))))) : Aq g a k n f H := ⟨_, h, fun _ => rfl, fun e => absurd e hne⟩
theorem Aq.cell {g : GT} {a k n : Nat} {f : Nat → Option Nat} {H : Heap} (h : Aq g a k n f H) (hn : a ≠ gE g ∨ 0 < n) : a ≠ gE g ∧ H[a]? = some (vp_cell (gA g k) (n, .inr (.inr (.inr (.inr f))))) := by
  obtain ⟨ce, h1, h2, h3⟩ := h
  have hne : a ≠ gE g := fun e => hn.elim (fun y => y e) (fun y => by have := (h3 e).1; omega)
  exact ⟨hne, by rw [h1, h2 hne]⟩
theorem Aq.gen {g : GT} {a k n : Nat} {f : Nat → Option Nat} {H : Heap} (h : Aq g a k n f H) : ∃ ce : Cell, H[a]? = some ce ∧ ce.cls = gA g k ∧ (ce = vp_cell (gA g k) (n, .inr (.inr (.inr (.inr f)))) ∨ (n = 0 ∧ Int32.ofNat ce.slots.size = 0)) ∧ ce.vm ≠ .unknown ∧ ∀ z, ce.vm ≠ .statics z := by
  obtain ⟨ce, h1, h2, h3⟩ := h
  by_cases e : a = gE g
  · obtain ⟨rfl, k1, k2, k3, k4⟩ := h3 e
    exact ⟨ce, h1, k1, Or.inr ⟨rfl, k2⟩, k3, fun z hz => by rw [hz] at k4; cases k4⟩
  · rw [h2 e] at h1
    exact ⟨_, h1, rfl, Or.inl rfl, (fun z => by cases z), (fun z hz => by cases hz)⟩
/-- only a has changed -/
def On (a : Nat) (H H1 : Heap) : Prop := H1.size = H.size ∧ ∀ q : Nat, q ≠ a → H1[q]? = H[q]?
/-- only new cells -/
def Ext (H H1 : Heap) : Prop := H.size ≤ H1.size ∧ ∀ q : Nat, q < H.size → H1[q]? = H[q]?
theorem Ext.rfl' {H : Heap} : Ext H H := ⟨Nat.le_refl _, fun _ _ => rfl⟩
theorem Ext.trans {H H1 H2 : Heap} (h : Ext H H1) (h2 : Ext H1 H2) : Ext H H2 := ⟨Nat.le_trans h.1 h2.1, fun q hq => (h2.2 q (Nat.lt_of_lt_of_le hq h.1)).trans (h.2 q hq)⟩
/-- H1 from H by changes of new cells -/
theorem Ext.on {H H1 H2 : Heap} {a : Nat} (h : Ext H H1) (h2 : On a H1 H2) (ha : H.size ≤ a) : Ext H H2 := ⟨by rw [h2.1]; exact h.1, fun q hq => (h2.2 q (by omega)).trans (h.2 q hq)⟩
theorem Ob.lt {g : GT} {a ci : Nat} {fs : List Value} {H : Heap} (h : Ob g a ci fs H) : a < H.size := va_at.lt h
theorem Ar.lt {g : GT} {a k n : Nat} {f : Nat → Int32} {H : Heap} (h : Ar g a k n f H) : a < H.size := (Array.getElem?_eq_some_iff.mp h).1
theorem Al.lt {g : GT} {a n : Nat} {f : Nat → Int64} {H : Heap} (h : Al g a n f H) : a < H.size := (Array.getElem?_eq_some_iff.mp h).1
theorem Aq.lt {g : GT} {a k n : Nat} {f : Nat → Option Nat} {H : Heap} (h : Aq g a k n f H) : a < H.size := (Array.getElem?_eq_some_iff.mp h.choose_spec.1).1
theorem Ob.at {g : GT} {a ci : Nat} {fs : List Value} {H H1 : Heap} (h : Ob g a ci fs H) (e : H1[a]? = H[a]?) : Ob g a ci fs H1 := va_at.kept h e
theorem Ar.at {g : GT} {a k n : Nat} {f : Nat → Int32} {H H1 : Heap} (h : Ar g a k n f H) (e : H1[a]? = H[a]?) : Ar g a k n f H1 := e.trans h
theorem Al.at {g : GT} {a n : Nat} {f : Nat → Int64} {H H1 : Heap} (h : Al g a n f H) (e : H1[a]? = H[a]?) : Al g a n f H1 := e.trans h
theorem Aq.at {g : GT} {a k n : Nat} {f : Nat → Option Nat} {H H1 : Heap} (h : Aq g a k n f H) (e : H1[a]? = H[a]?) : Aq g a k n f H1 := by obtain ⟨ce, h1, h2⟩ := h; exact ⟨ce, e.trans h1, h2⟩
theorem Ob.ext {g : GT} {a ci : Nat} {fs : List Value} {H H1 : Heap} (h : Ob g a ci fs H) (e : Ext H H1) : Ob g a ci fs H1 := h.at (e.2 _ h.lt)
theorem Ar.ext {g : GT} {a k n : Nat} {f : Nat → Int32} {H H1 : Heap} (h : Ar g a k n f H) (e : Ext H H1) : Ar g a k n f H1 := h.at (e.2 _ h.lt)
theorem Al.ext {g : GT} {a n : Nat} {f : Nat → Int64} {H H1 : Heap} (h : Al g a n f H) (e : Ext H H1) : Al g a n f H1 := h.at (e.2 _ h.lt)
theorem Aq.ext {g : GT} {a k n : Nat} {f : Nat → Option Nat} {H H1 : Heap} (h : Aq g a k n f H) (e : Ext H H1) : Aq g a k n f H1 := h.at (e.2 _ h.lt)
theorem Ob.on {g : GT} {a b ci : Nat} {fs : List Value} {H H1 : Heap} (h : Ob g a ci fs H) (e : On b H H1) (n : a ≠ b) : Ob g a ci fs H1 := h.at (e.2 _ n)
theorem Ar.on {g : GT} {a b k n : Nat} {f : Nat → Int32} {H H1 : Heap} (h : Ar g a k n f H) (e : On b H H1) (ne : a ≠ b) : Ar g a k n f H1 := h.at (e.2 _ ne)
theorem Al.on {g : GT} {a b n : Nat} {f : Nat → Int64} {H H1 : Heap} (h : Al g a n f H) (e : On b H H1) (ne : a ≠ b) : Al g a n f H1 := h.at (e.2 _ ne)
theorem Aq.on {g : GT} {a b k n : Nat} {f : Nat → Option Nat} {H H1 : Heap} (h : Aq g a k n f H) (e : On b H H1) (ne : a ≠ b) : Aq g a k n f H1 := h.at (e.2 _ ne)
theorem Ob.w {g : GT} {a ci : Nat} {fs : List Value} {H : Heap} (h : Ob g a ci fs H) : va_P (gD g) vwCl [(a, .inr (ci, fs))] H := by
  intro k q hq
  cases k with
  | zero => cases hq; exact h
  | succ k => simp at hq
theorem w1 {g : GT} {a : Nat} {x : ClassId × vp_A} {H : Heap} (h : H[a]? = some (vp_cell x.1 x.2)) : va_P (gD g) vwCl [(a, .inl x)] H := by
  intro k q hq
  cases k with
  | zero => cases hq; exact h
  | succ k => simp at hq
theorem Ob.recv {g : GT} {s : State} {a ci : Nat} {fs : List Value} {H : Heap} {r : vw_C} (h : Ob g a ci fs H) (hK : KV g s) (hc : vwCl[ci]? = some r) : ∃ cellB : Cell, H[a]? = some cellB ∧ cellB.vm.isStatics = false ∧ s.vm.findClass r.1 = some cellB.cls := va_recv hK.1 h.w (q0 := 0) hc rfl
theorem lo_app {g : GT} {locs : List Loc} {a k : Nat} (hL : ∀ q ∈ locs, gLo g ≤ q.base) (ha : gLo g ≤ a) : ∀ q ∈ locs ++ [⟨a, k⟩], gLo g ≤ q.base := by
  intro q hq
  rcases List.mem_append.mp hq with h | h
  · exact hL q h
  · rw [List.mem_singleton.mp h]; exact ha
section ROWS
variable {p : Program} {l : Launch} {e : Env} {R : Room} {s : State} {m : MethodId} {args : Array Value} {below : List Frame} {meth : Method} {c : Code} {H : Heap} {locs : List Loc} {cells slots : Nat} {Q : State → Prop}
variable {cc : ByteArray} {nL pc : Nat} {ls : Array Slot} {y : MethodName} {ret : Option FieldType} {g : GT} {rest : List Value} {a : Nat}
theorem r_get {ref C : String} {T : u_T} {N ci index : Nat} (X : Cx p g s m args meth c cc nL y ret) (hin : ∀ w ∈ u_ws C T N, w ∈ lw_all) (hc : vwCl[ci]? = some (C, T, N)) (k : Nat) (hk : k < N) (hlink : Cond.fieldLink y.cls index ref (T k).2.1 (T k).2.2.1 ∈ lw_all) (hsame : ∀ x, s.fieldFound? (T k).1 (T k).2.1 (T k).2.2.1 = some x → s.fieldFound? ref (T k).2.1 (T k).2.2.1 = some x)
    {fs : List Value} (ho : Ob g a ci fs H) {v : Value} (hv : fs[k]? = some v) (hdg : decode cc pc = .ok (.getfield index, 3))
    (kk : W p l e R s m args below meth c H locs cells slots Q (F0 m (pc + 3) ls (v :: rest))) : W p l e R s m args below meth c H locs cells slots Q (F0 m pc ls (.ref a :: rest)) := by
  obtain ⟨hx, hb, hml, hown, hts, hrt, hlk, ⟨hKV, hB⟩, hnm⟩ := X
  exact va_get hx hb hts hin hown hKV.1 ho.w 0 rfl hc k hk (hts _ hlink) hsame hv hdg kk
theorem r_getN {ref C host : String} {T : u_T} {N ci index : Nat} (X : Cx p g s m args meth c cc nL y ret) (hin : ∀ w ∈ u_ws C T N, w ∈ lw_all) (hc : vwCl[ci]? = some (C, T, N)) (k : Nat) (hk : k < N) (hlink : Cond.fieldLinkNest y.cls index ref (T k).2.1 (T k).2.2.1 host ∈ lw_tbl) (hsame : ∀ x, s.fieldFound? (T k).1 (T k).2.1 (T k).2.2.1 = some x → s.fieldFound? ref (T k).2.1 (T k).2.2.1 = some x)
    {fs : List Value} (ho : Ob g a ci fs H) {v : Value} (hv : fs[k]? = some v) (hdg : decode cc pc = .ok (.getfield index, 3))
    (kk : W p l e R s m args below meth c H locs cells slots Q (F0 m (pc + 3) ls (v :: rest))) : W p l e R s m args below meth c H locs cells slots Q (F0 m pc ls (.ref a :: rest)) := by
  obtain ⟨hx, hb, hml, hown, hts, hrt, hlk, ⟨hKV, hB⟩, hnm⟩ := X
  exact va_getN hx hb hts hin hown hKV.1 ho.w 0 rfl hc k hk (va_Nw.use rfl (hKV.2.1 _ (List.mem_filter.mpr ⟨hlink, rfl⟩))) hsame hv hdg kk
theorem r_put {ref C : String} {T : u_T} {N ci index : Nat} (X : Cx p g s m args meth c cc nL y ret) (hin : ∀ w ∈ u_ws C T N, w ∈ lw_all) (ty0 : Nat → FieldType) (hty : ∀ k, k < N → parseFieldDescriptor (T k).2.2.1 = some (ty0 k)) (hnm0 : ∀ a, a < N → ∀ b, b < N → a ≠ b → (T a).2.1 ≠ (T b).2.1) (hc : vwCl[ci]? = some (C, T, N)) (k : Nat) (hk : k < N) (hlink : Cond.fieldLink y.cls index ref (T k).2.1 (T k).2.2.1 ∈ lw_all) (hsame : ∀ x, s.fieldFound? (T k).1 (T k).2.1 (T k).2.2.1 = some x → s.fieldFound? ref (T k).2.1 (T k).2.2.1 = some x) (hfin : (T k).2.2.2 = false)
    (hL : ∀ q ∈ locs, gLo g ≤ q.base) {fs : List Value} (ho : Ob g a ci fs H) (hlo : gLo g ≤ a) {v : Value} (hn : narrow (ty0 k) v = v) (hfit : fits (ty0 k) v = true) (hl : k < fs.length) (hdg : decode cc pc = .ok (.putfield index, 3))
    (kk : ∀ (H1 : Heap) (locs1 : List Loc), (∀ q ∈ locs1, gLo g ≤ q.base) → Ob g a ci (fs.set k v) H1 → On a H H1 → W p l e R s m args below meth c H1 locs1 cells slots Q (F0 m (pc + 3) ls rest)) : W p l e R s m args below meth c H locs cells slots Q (F0 m pc ls (v :: .ref a :: rest)) := by
  obtain ⟨hx, hb, hml, hown, hts, hrt, hlk, ⟨hKV, hB⟩, hnm⟩ := X
  have hK := hKV.1
  have hap := va_apart (own := y.cls) hts hin ty0 hty hnm0 hK hc
  obtain ⟨r, h1, cell, q1, q2, q3, q4⟩ := ho
  have hr : r = (C, T, N) := Option.some.inj (h1.symm.trans hc)
  subst hr
  obtain ⟨hS, hfc, kC, hkC, hkind⟩ := hK.1 ci _ hc
  obtain ⟨cf, kf, fi, f, hi, hsl⟩ := hS k hk
  have hlay := hts _ (hin _ (u_in_lay hk))
  unfold u_lay at hlay
  rw [if_neg (by rw [hfin]; decide)] at hlay
  have hst := (u_facts hfc hkC (u_lays hts hin hk) hi).1
  have h6 := u_store hfc hkC hkind hlay hi (hty k hk) hn hfit
  refine W.putK hx hb (f := f) ⟨hown, hts _ hlink, ⟨_, _, _, hsame _ hi⟩, hst⟩ (by rw [q2]; exact h6) q1 q3 (by rw [hsl]; exact k2_hasslot (q4 k hk)) rfl rfl hdg fun H' e1 e2 e3 => ?_
  rw [hsl] at e1 ⊢
  exact kk H' _ (lo_app hL hlo) ⟨_, hc, t_OB.to (V := updV (vp_V fs) k v) ⟨_, e1, q2, q3, t_set q4 hap hk v⟩ (fun j _ => vp_updV_set hl v j)⟩ ⟨e2, e3⟩
theorem r_putN {ref C host : String} {T : u_T} {N ci index : Nat} (X : Cx p g s m args meth c cc nL y ret) (hin : ∀ w ∈ u_ws C T N, w ∈ lw_all) (ty0 : Nat → FieldType) (hty : ∀ k, k < N → parseFieldDescriptor (T k).2.2.1 = some (ty0 k)) (hnm0 : ∀ a, a < N → ∀ b, b < N → a ≠ b → (T a).2.1 ≠ (T b).2.1) (hc : vwCl[ci]? = some (C, T, N)) (k : Nat) (hk : k < N) (hlink : Cond.fieldLinkNest y.cls index ref (T k).2.1 (T k).2.2.1 host ∈ lw_tbl) (hsame : ∀ x, s.fieldFound? (T k).1 (T k).2.1 (T k).2.2.1 = some x → s.fieldFound? ref (T k).2.1 (T k).2.2.1 = some x) (hfin : (T k).2.2.2 = false)
    (hL : ∀ q ∈ locs, gLo g ≤ q.base) {fs : List Value} (ho : Ob g a ci fs H) (hlo : gLo g ≤ a) {v : Value} (hn : narrow (ty0 k) v = v) (hfit : fits (ty0 k) v = true) (hl : k < fs.length) (hdg : decode cc pc = .ok (.putfield index, 3))
    (kk : ∀ (H1 : Heap) (locs1 : List Loc), (∀ q ∈ locs1, gLo g ≤ q.base) → Ob g a ci (fs.set k v) H1 → On a H H1 → W p l e R s m args below meth c H1 locs1 cells slots Q (F0 m (pc + 3) ls rest)) : W p l e R s m args below meth c H locs cells slots Q (F0 m pc ls (v :: .ref a :: rest)) := by
  obtain ⟨hx, hb, hml, hown, hts, hrt, hlk, ⟨hKV, hB⟩, hnm⟩ := X
  have hK := hKV.1
  have hap := va_apart (own := y.cls) hts hin ty0 hty hnm0 hK hc
  obtain ⟨r, h1, cell, q1, q2, q3, q4⟩ := ho
  have hr : r = (C, T, N) := Option.some.inj (h1.symm.trans hc)
  subst hr
  obtain ⟨hS, hfc, kC, hkC, hkind⟩ := hK.1 ci _ hc
  obtain ⟨cf, kf, fi, f, hi, hsl⟩ := hS k hk
  have hlay := hts _ (hin _ (u_in_lay hk))
  unfold u_lay at hlay
  rw [if_neg (by rw [hfin]; decide)] at hlay
  have hst := (u_facts hfc hkC (u_lays hts hin hk) hi).1
  have h6 := u_store hfc hkC hkind hlay hi (hty k hk) hn hfit
  refine va_WputK hx hb (f := f) hown (va_Nw.use rfl (hKV.2.1 _ (List.mem_filter.mpr ⟨hlink, rfl⟩))) (hsame _ hi) hst (by rw [q2]; exact h6) q1 q3 (by rw [hsl]; exact k2_hasslot (q4 k hk)) rfl rfl hdg fun H' e1 e2 e3 => ?_
  rw [hsl] at e1 ⊢
  exact kk H' _ (lo_app hL hlo) ⟨_, hc, t_OB.to (V := updV (vp_V fs) k v) ⟨_, e1, q2, q3, t_set q4 hap hk v⟩ (fun j _ => vp_updV_set hl v j)⟩ ⟨e2, e3⟩
theorem r_putF {ref C : String} {T : u_T} {N ci index : Nat} (X : Cx p g s m args meth c cc nL y ret) (hin : ∀ w ∈ u_ws C T N, w ∈ lw_all) (ty0 : Nat → FieldType) (hty : ∀ k, k < N → parseFieldDescriptor (T k).2.2.1 = some (ty0 k)) (hnm0 : ∀ a, a < N → ∀ b, b < N → a ≠ b → (T a).2.1 ≠ (T b).2.1) (hc : vwCl[ci]? = some (C, T, N)) (k : Nat) (hk : k < N) (hlink : Cond.fieldLink y.cls index ref (T k).2.1 (T k).2.2.1 ∈ lw_all) (hsame : ∀ x, s.fieldFound? (T k).1 (T k).2.1 (T k).2.2.1 = some x → s.fieldFound? ref (T k).2.1 (T k).2.2.1 = some x) (hfin : (T k).2.2.2 = true) (hdecl : (T k).1 = y.cls) (hini : y.name = "<init>")
    (hL : ∀ q ∈ locs, gLo g ≤ q.base) {fs : List Value} (ho : Ob g a ci fs H) (hlo : gLo g ≤ a) {v : Value} (hn : narrow (ty0 k) v = v) (hfit : fits (ty0 k) v = true) (hl : k < fs.length) (hdg : decode cc pc = .ok (.putfield index, 3))
    (kk : ∀ (H1 : Heap) (locs1 : List Loc), (∀ q ∈ locs1, gLo g ≤ q.base) → Ob g a ci (fs.set k v) H1 → On a H H1 → W p l e R s m args below meth c H1 locs1 cells slots Q (F0 m (pc + 3) ls rest)) : W p l e R s m args below meth c H locs cells slots Q (F0 m pc ls (v :: .ref a :: rest)) := by
  obtain ⟨hx, hb, hml, hown, hts, hrt, hlk, ⟨hKV, hB⟩, hnm⟩ := X
  have hK := hKV.1
  have hap := va_apart (own := y.cls) hts hin ty0 hty hnm0 hK hc
  obtain ⟨r, h1, cell, q1, q2, q3, q4⟩ := ho
  have hr : r = (C, T, N) := Option.some.inj (h1.symm.trans hc)
  subst hr
  obtain ⟨hS, hfc, kC, hkC, hkind⟩ := hK.1 ci _ hc
  obtain ⟨cf, kf, fi, f, hi, hsl⟩ := hS k hk
  have hlay := hts _ (hin _ (u_in_lay hk))
  unfold u_lay at hlay
  rw [if_pos hfin] at hlay
  have hst := (u_facts hfc hkC (u_lays hts hin hk) hi).1
  have hcf : m.cls = cf := by
    obtain ⟨_, _, c', _, _, _, -, -, hf', -, -, -, hown2, -⟩ := Cond.laysFinal_spec hlay
    have e1 : c' = cf := by have := hi.symm.trans hf'; simp at this; exact this.1.symm
    rw [hdecl] at hown2
    rw [← e1]; exact Option.some.inj (hown.symm.trans hown2)
  have h6 := u_fits hfc hkC hkind (Or.inr hlay) hi (hty k hk) hn hfit
  refine W.putFinK hx hb hown (hts _ hlink) (hsame _ hi) hst hcf (hnm.trans hini) (by rw [q2]; exact h6) q1 q3 (by rw [hsl]; exact k2_hasslot (q4 k hk)) rfl rfl hdg fun H' e1 e2 e3 => ?_
  rw [hsl] at e1 ⊢
  exact kk H' _ (lo_app hL hlo) ⟨_, hc, t_OB.to (V := updV (vp_V fs) k v) ⟨_, e1, q2, q3, t_set q4 hap hk v⟩ (fun j _ => vp_updV_set hl v j)⟩ ⟨e2, e3⟩
end ROWS
