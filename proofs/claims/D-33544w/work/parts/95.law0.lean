/-! the law's own small methods: contracts with a table of handlers; calls from any room -/
def Cw (l : Launch) (g : GT) (y : MethodName) (cc : ByteArray) (maxL : Nat) (ret : Option FieldType) (hh : List (Nat × Nat × Nat × Nat)) (d mc ms : Nat) (av : List Value) (P : Heap → Prop) (Po : Option Value → Heap → Heap → Prop) : Prop :=
  vx_Met l y (wsW_ y cc maxL ret hh) (rmL d mc ms) (Pcg g av P) (Qcg Po) (XCg fun _ _ _ => False) mc ms (fre g)
theorem Cw.of {l : Launch} {g : GT} {y : MethodName} {cc : ByteArray} {maxL : Nat} {ret : Option FieldType} {hh : List (Nat × Nat × Nat × Nat)} {d mc ms : Nat} {av : List Value} {P : Heap → Prop} {Po : Option Value → Heap → Heap → Prop} (hy : plainName y.cls = true) (hn : (lg_sl av).length ≤ maxL)
    (body : ∀ (p : Program) (e : Env) (s : State) (m : MethodId) (args : Array Value) (below : List Frame) (meth : Method) (c : Code), Cx p g s m args meth c cc maxL y ret → c.exceptionTable.toList = tableOf hh → P s.heap → ∀ ls, lv_has ls maxL (lv_args 0 av) → W p l e (rmL d mc ms) s m args below meth c s.heap [] 0 0 (vx_MQ below (Qcg Po) (XCg fun _ _ _ => False) args s mc ms (fre g)) (F0 m 0 ls [])) :
    Cw l g y cc maxL ret hh d mc ms av P Po := by
  refine vx_ofWH (cc := cc) (maxL := maxL) (ret := ret) (hh := hh) hy rfl ?_
  intro p e s m args below meth c s₁ B hml hv
  obtain ⟨rfl, hKB, hP⟩ := hv
  have hts := atoms_spec (ws := wsW_ y cc maxL ret hh) B.pre
  have hT := vx_table (x := y) B (hts _ List.mem_cons_self)
  have hts : ∀ w ∈ lw_all, w.before av.toArray s = true := fun w h => hts w (List.mem_cons_of_mem _ h)
  have hl := lv_entry av (n := maxL) hn
  rw [lg_entry_eq]
  generalize (lg_sl av ++ List.replicate (maxL - (lg_sl av).length) Slot.unset).toArray = ls at hl ⊢
  exact body p e s m _ below meth c ⟨B.exec, B.bytes, hml, findClass_of_methodNamed B.named, hts, B.returns, B.notSynchronized, hKB, (name_of_methodNamed B.named B.method).1⟩ hT hP ls hl
section ROOMCALLS
variable {p : Program} {l : Launch} {e : Env} {R : Room} {s : State} {m : MethodId} {args : Array Value} {below : List Frame} {meth : Method} {c : Code} {H : Heap} {locs : List Loc} {cells slots : Nat} {Q : State → Prop}
variable {cc cc' : ByteArray} {nL pc maxL n index mc' ms' d' : Nat} {ls : Array Slot} {y y' : MethodName} {ret ret' : Option FieldType} {g : GT} {P : Heap → Prop} {Po : Option Value → Heap → Heap → Prop} {b : Nat} {As rest : List Value} {st : List Value} {lv : List (Nat × Value)}
theorem Gr.callV (hM : Ct l g y' cc' maxL ret' d' mc' ms' (.ref b :: As) P Po) (X : Cx p g s m args meth c cc nL y ret) (hL : ∀ q ∈ locs, gLo g ≤ q.base) (hl : lv_has ls nL lv) (hV : VB y' cc' maxL ret' n) (hlink : Cond.methodLink y.cls index y' ∈ lw_all)
    (hcell : ∃ cellB : Cell, H[b]? = some cellB ∧ cellB.vm.isStatics = false ∧ s.vm.findClass y'.cls = some cellB.cls) (hn : As.length = n) (hst : st = As.reverse ++ .ref b :: rest) (hW : (rest.map fun v => v.category).sum ≤ 8) (hdg : decode cc pc = .ok (.invokevirtual index, 3))
    (hR : d' + 1 ≤ R.frames ∧ 8 + (maxL + 11) + (4096 + 64 * d') ≤ R.locals) (hc : cells + mc' ≤ R.cells) (hs : slots + ms' ≤ R.slots) (hP : P H)
    (kk : ∀ (r : Option Value) (H1 : Heap) (locs1 : List Loc), (∀ q ∈ locs1, gLo g ≤ q.base) → Po r H H1 → W p l e R s m args below meth c H1 locs1 (cells + mc') (slots + ms') Q (F0 m (pc + 3) ls (r.toList ++ rest))) :
    W p l e R s m args below meth c H locs cells slots Q (F0 m pc ls st) := by
  obtain ⟨hx, hb, hml, hown, hts, hrt, hlk, ⟨hKV, hB⟩, hnm⟩ := X
  obtain ⟨v1, v2, v3, v4, v5⟩ := hV
  intro T hT XT
  have hBH : Base g H := by rw [← hT]; exact base_at XT hL hB
  exact run_go hL (va_runV (C := y'.cls) (index := index) (As := As) (b := b) (n := n) (Ts := lw_all) ⟨hx, hb, hml, hown, hts⟩ hM (cwV n hts (lw_V hlink v1 v2 v3 v4) rfl rfl rfl ⟨rfl, v5⟩ hR) ⟨Pcg.blind, hcell, fun U hU hW => ⟨rfl, ⟨hKV.warm hW, by rw [hU]; exact hBH⟩, by rw [hU]; exact hP⟩⟩ rfl hn hl.1 hst (by show 2 * 0 + _ ≤ 8; omega) hdg ⟨hc, hs⟩) kk T hT XT
theorem Gr.callI (hM : Ct l g y' cc' maxL none d' mc' ms' (.ref b :: As) P Po) (X : Cx p g s m args meth c cc nL y ret) (hL : ∀ q ∈ locs, gLo g ≤ q.base) (hl : lv_has ls nL lv) (hV : IB y' cc' maxL n) (hlink : Cond.methodLink y.cls index y' ∈ lw_all)
    (hn : As.length = n) (hst : st = As.reverse ++ .ref b :: rest) (hW : (rest.map fun v => v.category).sum ≤ 8) (hdg : decode cc pc = .ok (.invokespecial index, 3))
    (hR : d' + 1 ≤ R.frames ∧ 8 + (maxL + 11) + (4096 + 64 * d') ≤ R.locals) (hc : cells + mc' ≤ R.cells) (hs : slots + ms' ≤ R.slots) (hP : P H)
    (kk : ∀ (r : Option Value) (H1 : Heap) (locs1 : List Loc), (∀ q ∈ locs1, gLo g ≤ q.base) → Po r H H1 → W p l e R s m args below meth c H1 locs1 (cells + mc') (slots + ms') Q (F0 m (pc + 3) ls (r.toList ++ rest))) :
    W p l e R s m args below meth c H locs cells slots Q (F0 m pc ls st) := by
  obtain ⟨hx, hb, hml, hown, hts, hrt, hlk, ⟨hKV, hB⟩, hnm⟩ := X
  obtain ⟨v1, v3, v4, v5, v6⟩ := hV
  intro T hT XT
  have hBH : Base g H := by rw [← hT]; exact base_at XT hL hB
  exact run_go hL (va_runI (index := index) (As := As) (b := b) (n := n) (Ts := lw_all) ⟨hx, hb, hml, hown, hts⟩ hM (cwI n hts (lw_meth v4) rfl rfl rfl (hts _ v3) (hts _ hlink) (hts _ v1) v5 v6 hR) ⟨Pcg.blind, fun U hU hW => ⟨rfl, ⟨hKV.warm hW, by rw [hU]; exact hBH⟩, by rw [hU]; exact hP⟩⟩ rfl hn hl.1 hst (by show 2 * 0 + _ ≤ 8; omega) hdg ⟨hc, hs⟩) kk T hT XT
def SBW (y : MethodName) (cc : ByteArray) (maxL : Nat) (ret : Option FieldType) (hh : List (Nat × Nat × Nat × Nat)) (n : Nat) : Prop := Cond.static y ∈ lw_all ∧ Cond.initialized y.cls ∈ lw_all ∧ Cond.codeWith y cc maxL ret hh ∈ lw_all ∧ (y.cls ≠ "java/lang/invoke/MethodHandle" ∧ y.cls ≠ "java/lang/invoke/VarHandle" ∧ (parseMethodDescriptor y.desc).map (fun d => d.parameters.length) = some n)
theorem Gr.callW {hh : List (Nat × Nat × Nat × Nat)} (hM : Cw l g y' cc' maxL ret' hh d' mc' ms' As P Po) (X : Cx p g s m args meth c cc nL y ret) (hL : ∀ q ∈ locs, gLo g ≤ q.base) (hl : lv_has ls nL lv) (hV : SBW y' cc' maxL ret' hh n) (hlink : Cond.methodLink y.cls index y' ∈ lw_all)
    (hn : As.length = n) (hst : st = As.reverse ++ rest) (hW : (rest.map fun v => v.category).sum ≤ 8) (hdg : decode cc pc = .ok (.invokestatic index, 3))
    (hR : d' + 1 ≤ R.frames ∧ 8 + (maxL + 11) + (4096 + 64 * d') ≤ R.locals) (hc : cells + mc' ≤ R.cells) (hs : slots + ms' ≤ R.slots) (hP : P H)
    (kk : ∀ (r : Option Value) (H1 : Heap) (locs1 : List Loc), (∀ q ∈ locs1, gLo g ≤ q.base) → Po r H H1 → W p l e R s m args below meth c H1 locs1 (cells + mc') (slots + ms') Q (F0 m (pc + 3) ls (r.toList ++ rest))) :
    W p l e R s m args below meth c H locs cells slots Q (F0 m pc ls st) := by
  obtain ⟨hx, hb, hml, hown, hts, hrt, hlk, ⟨hKV, hB⟩, hnm⟩ := X
  obtain ⟨v1, v2, v3, v4⟩ := hV
  intro T hT XT
  have hBH : Base g H := by rw [← hT]; exact base_at XT hL hB
  exact runX_go hL (vx_runSX (index := index) (As := As) (n := n) (Ts := lw_all) ⟨hx, hb, hml, hown, hts⟩ hM (vx_cwSW n hts (lw_SW hlink v1 v2 v3) rfl rfl rfl v4 hR) ⟨Pcg.blind, fun U hU hW => ⟨rfl, ⟨hKV.warm hW, by rw [hU]; exact hBH⟩, by rw [hU]; exact hP⟩⟩ rfl hn hl.1 hst (by show 2 * 0 + _ ≤ 8; omega) hdg ⟨hc, hs⟩) (fun _ _ _ _ _ _ hf => hf.elim) kk T hT XT
/-- the classes that are caught -/
theorem cast_of {E : String} {args : Array Value} (hts : ∀ w ∈ lw_all, w.before args s = true) (hN : NW s) (h : Cond.castable E E ∈ lw_tbl) : (Cond.castable E E).before args s = true :=
  nw_all (L := [Cond.castable E E]) hts hN (fun w hw => by rw [List.mem_singleton.mp hw]; exact h) (by simp [nwb, Cond.onTables]) _ (List.mem_singleton.mpr rfl)
theorem r_catch1 {E : String} {ce : Cell} {q : Addr} {a1 a2 a3 a4 : Nat} {hh : List (Nat × Nat × Nat × Nat)} (X : Cx p g s m args meth c cc nL y ret) (hT : c.exceptionTable.toList = tableOf ((a1, a2, a3, a4) :: hh)) (hx : covers ⟨a1, a2, a3, a4⟩ pc = true) (h0 : a4 ≠ 0)
    (hlink : Cond.classLink y.cls a4 E ∈ lw_all) (hcast : Cond.castable E E ∈ lw_tbl) (hcell : H[q]? = some ce) (hv : ce.vm = .none) (hcl : s.vm.findClass E = some ce.cls)
    (kk : W p l e R s m args below meth c H locs cells slots Q (F0 m a3 ls [.ref q])) : vx_W p l e R s m args below meth c H locs cells slots Q (F0 m pc ls rest) q :=
  vx_catch X.2.2.2.1 [] ⟨a1, a2, a3, a4⟩ (tableOf hh) hT (fun z hz => by cases hz) hx h0 (X.2.2.2.2.1 _ hlink) (cast_of X.2.2.2.2.1 X.2.2.2.2.2.2.2.1.1.2.1 hcast) hcell hv hcl kk
theorem r_catch2 {E E0 : String} {ce : Cell} {q : Addr} {a1 a2 a3 a4 b1 b2 b3 b4 : Nat} {hh : List (Nat × Nat × Nat × Nat)} (X : Cx p g s m args meth c cc nL y ret) (hT : c.exceptionTable.toList = tableOf ((b1, b2, b3, b4) :: (a1, a2, a3, a4) :: hh)) (hx : covers ⟨a1, a2, a3, a4⟩ pc = true) (h0 : a4 ≠ 0) (h00 : b4 ≠ 0)
    (hlink : Cond.classLink y.cls a4 E ∈ lw_all) (hlink0 : Cond.classLink y.cls b4 E0 ∈ lw_all) (hn : va_Nc E E0 s) (hcast : Cond.castable E E ∈ lw_tbl) (hcell : H[q]? = some ce) (hv : ce.vm = .none) (hcl : s.vm.findClass E = some ce.cls)
    (kk : W p l e R s m args below meth c H locs cells slots Q (F0 m a3 ls [.ref q])) : vx_W p l e R s m args below meth c H locs cells slots Q (F0 m pc ls rest) q :=
  vx_catch X.2.2.2.1 [⟨b1, b2, b3, b4⟩] ⟨a1, a2, a3, a4⟩ (tableOf hh) hT (fun z hz => by rw [List.mem_singleton.mp hz]; exact Or.inr ⟨h00, E0, X.2.2.2.2.1 _ hlink0, hn⟩) hx h0 (X.2.2.2.2.1 _ hlink) (cast_of X.2.2.2.2.1 X.2.2.2.2.2.2.2.1.1.2.1 hcast) hcell hv hcl kk
end ROOMCALLS
theorem Al.to {g : GT} {a n : Nat} {f h : Nat → Int64} {H : Heap} (x : Al g a n f H) (e : ∀ j, j < n → f j = h j) : Al g a n h H := by
  have e2 : vp_cell (gA g 3) (n, .inr (.inl f)) = vp_cell (gA g 3) (n, .inr (.inl h)) := by
    show arrV (gA g 3) n (fun j => .long (f j)) = arrV (gA g 3) n (fun j => .long (h j))
    unfold arrV
    congr 1
    apply Array.ext
    · simp
    · intro i h1 h2
      simp at h1 ⊢
      exact e i h1
  show H[a]? = _
  rw [← e2]; exact x
theorem Al.one {g : GT} {u : Nat} {f : Nat → Int64} {v : Int64} {H : Heap} (h : Al g u 1 (vp_updL f 0 v) H) : Al g u 1 (fun _ => v) H :=
  h.to (fun j hj => by have : j = 0 := by omega
                       subst this; simp [vp_updL])
theorem Al.chg {g : GT} {a n : Nat} {f : Nat → Int64} {P : Nat → Prop} {H H1 : Heap} (h : Al g a n f H) (c : Chg P H H1) (hn : ¬ P a) : Al g a n f H1 := h.at (c.2 _ h.lt hn)
/-- what one of the law's small methods leaves: its code, the number in the cell u, the OfferSky as the spec says -/
def WP (g : GT) (F : Nat → Prop) (o u : Nat) (x : Nat × Option Value × MS) : Option Value → Heap → Heap → Prop := fun r H H1 => r = some (.int (nI x.1)) ∧ x.1 < 3 ∧ (x.1 = 0 → ∃ n, x.2.1 = some (.int n) ∧ Al g u 1 (fun _ => n.toInt64) H1) ∧ (∃ f, Al g u 1 f H1) ∧ SkX g F x.2.2 o H1 ∧ Chg (fun q => ¬ F q ∨ q = u) H H1
section WPS
variable {g : GT} {F : Nat → Prop} {S : MS} {n st ln o u : Nat} {hf hs : Bool} {x : Nat × Option Value × MS} {f : Nat → Int64} {v : Int32} {w : Int64} {H Hm H1 : Heap} {k : Nat}
theorem SkX.on (h : SkX g F S o H) (e : On u H H1) (hu : F u) (hE : gE g < gLo g) (hFl : ∀ q, F q → gLo g ≤ q) : SkX g F S o H1 := by
  obtain ⟨n, st, ln, hf, hs, h⟩ := h
  exact ⟨n, st, ln, hf, hs, h.keep (Q := fun q => q = u) (e.chg rfl) (fun q hq => by have hq : q = u := hq; rw [hq]; exact hu) hE hFl⟩
theorem SkX.ext (h : SkX g F S o H) (e : Ext H H1) : SkX g F S o H1 := by
  obtain ⟨n, st, ln, hf, hs, h⟩ := h
  exact ⟨n, st, ln, hf, hs, h.ext e⟩
theorem WP.c0 (h0 : x.1 = 0) (hv : x.2.1 = some (.int v)) (hw : w = v.toInt64) (hX : SkX g F x.2.2 o Hm) (c : Chg (fun q => ¬ F q) H Hm) (ha : Al g u 1 (vp_updL f 0 w) H1) (e : On u Hm H1) (hu : F u) (hE : gE g < gLo g) (hFl : ∀ q, F q → gLo g ≤ q) : WP g F o u x (some (.int (nI 0))) H H1 :=
  ⟨by rw [h0], by omega, fun _ => ⟨v, hv, hw ▸ ha.one⟩, ⟨_, ha⟩, hX.on e hu hE hFl, (c.mono (fun q hq => Or.inl hq)).trans (e.chg (Or.inr rfl))⟩
theorem WP.cx (hk : x.1 = k) (hk0 : k ≠ 0 ∧ k < 3) (hX : SkX g F x.2.2 o H1) (c : Chg (fun q => ¬ F q) H H1) (ha : Al g u 1 f H1) : WP g F o u x (some (.int (nI k))) H H1 :=
  ⟨by rw [hk], by have := hk0.2; omega, fun h => absurd (hk.symm.trans h) hk0.1, ⟨_, ha⟩, hX, c.mono (fun q hq => Or.inl hq)⟩
/-- as WP, of a method without a number -/
def WV (g : GT) (F : Nat → Prop) (o : Nat) (x : Nat × Option Value × MS) : Option Value → Heap → Heap → Prop := fun r H H1 => r = some (.int (nI x.1)) ∧ SkX g F x.2.2 o H1 ∧ Chg (fun q => ¬ F q) H H1
theorem WV.mk (hk : x.1 = k) (hX : SkX g F x.2.2 o H1) (c : Chg (fun q => ¬ F q) H H1) : WV g F o x (some (.int (nI k))) H H1 := ⟨by rw [hk], hX, c⟩
end WPS
theorem t64_bI (b : Bool) : (if b then (1 : Int64) else 0) = (bI b).toInt64 := by cases b <;> rfl
