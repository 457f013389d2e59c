/-! the law's world and its rows -/
def R_law : String := "OfferSkyLaw"
def lw_P (b : Addr) (xs : List Int32) (args : Array Value) (s : State) : Prop := args = #[.ref b] ∧ s.IntsAt b xs ∧ xs.length ≤ 120 ∧ (Jvm.Cond.and given_1 narrow_1).before args s = true
def lw_Q (_ : Array Value) (s : State) (o : Outcome) (t : State) : Prop := o = .returned (some (.int 1)) ∧ Framed s o t [] 1200144 5497786
def lw_Z (below : List Frame) (a : Array Value) (s : State) : State → Prop := fun t => ∃ o, t.status = .running ∧ Ended t below o ∧ lw_Q a s o t
/-- the law's own end, with 1 on the stack, nothing written that was there before, its room as the claim has it -/
theorem lw_ret {p : Program} {l : Launch} {e : Env} {s : State} {m : MethodId} {below : List Frame} {meth : Method} {c : Code} {b : Nat} (hx : p.tables.exec = Jvm.exec) (hb : c.code = code) (hr : meth.sig.returnType = ret) (hlocks : meth.locks = false) {pc : Nat} {H : Heap} {ls : Array Slot} (hdg : decode code pc = .ok (.ireturn, 1)) : W p l e room_1 s m #[Value.ref b] below meth c H [] 1200144 5497786 (lw_Z below #[Value.ref b] s) (F0 m pc ls [.int 1]) := by
  intro T hT X
  obtain ⟨fs, hret, hrun, hended, hW, hframe⟩ := X.leave (v := some (.int 1)) (hlocks := hlocks) (fun h => by rw [hr] at h; cases h)
  have hmeth' : T.vm.method? m = some meth := X.method'
  refine ⟨T.setFrames fs, ?_, .returned (some (.int 1)), hrun, hended, rfl, ⟨_, rfl⟩, hW, hframe⟩
  jvm_step X.here [X.here.top, hx, hb, hdg, hmeth', hr, ret, narrow_b1]
  (try refine ⟨rfl, ?_⟩); (try refine ⟨rfl, ?_⟩)
  first | (intro acts; rw [hret _ acts rfl rfl rfl]) | rw [hret _ _ rfl rfl rfl]
  exact Steps.refl _
/-- what holds at the law's entry: the machine, the code, the tables' words (any of lw_tbl by 'hts w (by decide +kernel)'), the script of L ints xs at the cell b, what the Statement gives of the start (any of its parts by flat_of_before) -/
def lw_At (p : Program) (s : State) (m : MethodId) (meth : Method) (c : Code) (b L : Nat) (xs : Nat → Int32) : Prop :=
  p.tables.exec = Jvm.exec ∧ c.code = code ∧ meth.sig.returnType = ret ∧ c.maxLocals = 9 ∧ s.vm.findClass R_law = some m.cls ∧ (∀ w ∈ lw_tbl, w.before #[Value.ref b] s = true) ∧ va_X b L xs s s.heap ∧ b < s.heap.size ∧ meth.locks = false ∧ (Jvm.Cond.and given_1 narrow_1).before #[Value.ref b] s = true
/-- the cells of the model and of the one number -/
def FF (o : Nat) : Nat → Prop := fun q => o ≤ q ∧ q < o + 11
theorem FF_u (o : Nat) : FF o (o + 10) := ⟨by omega, by omega⟩
theorem FF_lo {g : GT} {o : Nat} (h : gLo g ≤ o) : ∀ q, FF o q → gLo g ≤ q := fun q hq => Nat.le_trans h hq.1
/-- what holds at the head of the law's loop -/
def LI (g : GT) (a o : Nat) (H : Heap) : Prop := (∃ S n st ln hf hs, SkR g (FF o) S n st ln hf hs a H ∧ MW g o S H) ∧ ∃ f, Al g (o + 10) 1 f H
/-- what holds all through -/
def LB (g : GT) (o b L : Nat) (xs : Nat → Int32) (s : State) : Prop := gLo g ≤ o ∧ va_X b L xs s s.heap ∧ b < gLo g ∧ s.heap.size = gLo g ∧ L ≤ 120
/-- the room of the law -/
def LR (R : Room) : Prop := 40 ≤ R.frames ∧ 16384 ≤ R.locals
abbrev yL (nm : String) : MethodName := ⟨R_law, nm, "x"⟩
theorem MW.keepC {g : GT} {o : Nat} {S : MS} {P : Nat → Prop} {H H1 : Heap} (h : MW g o S H) (c : Chg P H H1) (d : ∀ q, o ≤ q → q < o + 10 → ¬ P q) : MW g o S H1 := by
  refine ⟨h.1, h.2.1.chg c (d o (Nat.le_refl _) (by omega)), fun k hk => (h.2.2 k hk).chg c (d _ (by omega) (by omega))⟩
theorem Off.chg {o : Nat} {H H1 : Heap} (h : Off o H H1) : Chg (fun q => o ≤ q ∧ q < o + 10) H H1 := ⟨Nat.le_of_eq h.1.symm, fun q _ hn => h.2 q (by omega)⟩
theorem SkX.off {g : GT} {o a : Nat} {S : MS} {H H1 : Heap} (h : SkX g (FF o) S a H) (e : Off o H H1) (hE : gE g < gLo g) (hlo : gLo g ≤ o) : SkX g (FF o) S a H1 := by
  obtain ⟨n, st, ln, hf, hs, h⟩ := h
  exact ⟨n, st, ln, hf, hs, h.keep e.chg (fun q hq => ⟨hq.1, by omega⟩) hE (FF_lo hlo)⟩
theorem SkR.grow {g : GT} {F : Nat → Prop} {S : MS} {n st ln a : Nat} {hf hs : Bool} {H H1 : Heap} (h : SkR g F S n st ln hf hs a H) (e : Ext H H1) : SkR g (fun q => H.size ≤ q ∧ q < H1.size) S n st ln hf hs a H1 := by
  obtain ⟨K, sta, dq, sl, bf, xs, fs, hh, hK0, hFs, hB, hS, hJ⟩ := h
  obtain ⟨Kp, kp1, kp2⟩ : ∃ Kp : Nat → Nat, (∀ q, q < H.size → Kp q = K q) ∧ ∀ q, H.size ≤ q → Kp q = 0 := ⟨fun q => if q < H.size then K q else 0, fun q h => if_pos h, fun q h => if_neg (by omega)⟩
  refine ⟨Kp, sta, dq, sl, bf, xs, fs, hh, fun q hq => ?_, fun q hq => hq.2, (hB.re (fun q hq => (kp1 q hq).symm)).ext e, (hS.re (fun q hq => (kp1 q hq).symm)).ext e, hJ⟩
  by_cases u : q < H.size
  · rw [kp1 q u]; exact hK0 q (Or.inl (hq.elim id (fun y => absurd y.1 (by omega))))
  · exact kp2 q (by omega)
theorem SkX.sc {g : GT} {F : Nat → Prop} {S S1 : MS} {a : Nat} {H : Heap} (h : SkX g F S a H) (e : Sc S S1) : SkX g F S1 a H := by
  obtain ⟨n, st, ln, hf, hs, h⟩ := h
  exact ⟨n, st, ln, hf, hs, h.sc e⟩
theorem LI.mk {g : GT} {a o : Nat} {S : MS} {f : Nat → Int64} {H : Heap} (hX : SkX g (FF o) S a H) (hW : MW g o S H) (hu : Al g (o + 10) 1 f H) : LI g a o H := by
  obtain ⟨n, st, ln, hf, hs, h⟩ := hX
  exact ⟨⟨S, n, st, ln, hf, hs, h, hW⟩, f, hu⟩
theorem WP.ex {g : GT} {F : Nat → Prop} {o u : Nat} {x : Nat × Option Value × MS} {r : Option Value} {H H1 : Heap} (h : WP g F o u x r H H1) : ∃ x1, x1 = x ∧ WP g F o u x1 r H H1 := ⟨x, rfl, h⟩
theorem WV.ex {g : GT} {F : Nat → Prop} {o : Nat} {x : Nat × Option Value × MS} {r : Option Value} {H H1 : Heap} (h : WV g F o x r H H1) : ∃ x1, x1 = x ∧ WV g F o x1 r H H1 := ⟨x, rfl, h⟩
theorem OQ.ex {x : Nat × Option Value × MS} {r : Option Value} {H H1 : Heap} (h : OQ x r H H1) : ∃ x1, x1 = x ∧ OQ x1 r H H1 := ⟨x, rfl, h⟩
theorem OpP.ex {g : GT} {F : Nat → Prop} {o : Nat} {x : Nat × Option Value × MS} {r : Option Value} {H H1 : Heap} (h : OpP g F o x r H H1) : ∃ x1, x1 = x ∧ OpP g F o x1 r H H1 := ⟨x, rfl, h⟩
section LAWROWS
variable {p : Program} {l : Launch} {e : Env} {R : Room} {s : State} {m : MethodId} {args : Array Value} {below : List Frame} {meth : Method} {c : Code} {H : Heap} {locs : List Loc} {cells slots : Nat} {Q : State → Prop}
variable {cc : ByteArray} {nL pc : Nat} {ls : Array Slot} {y : MethodName} {ret : Option FieldType} {g : GT} {rest : List Value} {b L o : Nat} {xs : Nat → Int32}
theorem xs_S {T : State} (X : Cx p g s m args meth c cc nL y ret) (hB : LB g o b L xs s) (hL : ∀ q ∈ locs, gLo g ≤ q.base) (hT : T.heap = H) (XT : Stand p l e R s m args below meth c T locs cells slots) : va_S (fun q => gLo g ≤ q) s.heap H locs := by
  obtain ⟨hx, hb, hml, hown, hts, hrt, hlk, ⟨hKV, hB0⟩, hnm⟩ := X
  have hBH : Base g H := by rw [← hT]; exact base_at XT hL hB0
  obtain ⟨h1, h2, h3, h4, h5⟩ := hB
  exact ⟨by rw [h4]; exact hBH.1, fun q hq hn => by rw [hBH.2.1 q (by omega), hB0.2.1 q (by omega)], hL⟩
theorem r_xld (X : Cx p g s m args meth c cc nL y ret) (hB : LB g o b L xs s) (hL : ∀ q ∈ locs, gLo g ≤ q.base) {j : Nat} (hj : j < L) (hdg : decode cc pc = .ok (.iaload, 1))
    (kk : W p l e R s m args below meth c H locs cells slots Q (F0 m (pc + 1) ls (.int (xs j) :: rest))) : W p l e R s m args below meth c H locs cells slots Q (F0 m pc ls (.int (nI j) :: .ref b :: rest)) := by
  intro T hT XT
  have hS := xs_S X hB hL hT XT
  obtain ⟨h1, h2, h3, h4, h5⟩ := id hB
  have hcl : (nI j).toNatClampNeg = j := nI_cl (by omega) rfl
  exact va_sld X.1 X.2.1 h2 (by omega) (show ¬ gLo g ≤ b by omega) hS (i := nI j) (fun h => h.elim (nI_nn (by omega) rfl) (fun q => by omega)) hdg (by rw [hcl]; exact kk) T hT XT
theorem r_xlen (X : Cx p g s m args meth c cc nL y ret) (hB : LB g o b L xs s) (hL : ∀ q ∈ locs, gLo g ≤ q.base) (hdg : decode cc pc = .ok (.arraylength, 1))
    (kk : W p l e R s m args below meth c H locs cells slots Q (F0 m (pc + 1) ls (.int (nI L) :: rest))) : W p l e R s m args below meth c H locs cells slots Q (F0 m pc ls (.ref b :: rest)) := by
  intro T hT XT
  have hS := xs_S X hB hL hT XT
  obtain ⟨h1, h2, h3, h4, h5⟩ := id hB
  exact va_slen X.1 X.2.1 h2 (by omega) (show ¬ gLo g ≤ b by omega) hS hdg kk T hT XT
end LAWROWS
theorem and63 (v : Int32) : ∃ k, k < 64 ∧ v &&& 63 = nI k := by
  refine ⟨(v.toBitVec &&& 63#32).toNat, ?_, ?_⟩
  · rw [BitVec.toNat_and]
    exact Nat.lt_of_le_of_lt Nat.and_le_right (by decide)
  · apply Int32.toBitVec_inj.mp
    show v.toBitVec &&& 63#32 = BitVec.ofNat 32 _
    rw [BitVec.ofNat_toNat, BitVec.setWidth_eq]
theorem lo_gt {i L : Nat} (hi : i ≤ L) (hL : L ≤ 120) (h : ¬ nI i > nI L - nI 5) : i + 4 < L := by
  by_cases q : 5 ≤ L
  · rw [pk_sub q] at h
    have := mt (nI_ltI (a := L - 5) (b := i) (by omega) (by omega)).mpr h
    omega
  · exfalso
    have key : ∀ i, i < 5 → ∀ L, L < 5 → nI i > nI L - nI 5 := by decide
    exact h (key i (by omega) L (by omega))
