/-! what the tables and the heap below lo say all through a run -/
/-- words that don't ride in lists -/
def nwl : List Cond := lw_tbl.filter fun w => match w with
  | .fieldLinkNest .. => true
  | .methodLinkNest .. => true
  | .declares _ => true
  | .castable .. => true
  | .arrayOver (.object _) => true
  | .privateMethod _ => true
  | _ => false
def NW (U : State) : Prop := ∀ w ∈ nwl, va_Nw w U
/-- the interfaces' entries -/
def IW (U : State) : Prop := ∀ x ∈ ([⟨"OfferSky$Choice", "holds", "(Ljava/lang/Object;)Z"⟩, ⟨"OfferSky$Order", "isAhead", "(Ljava/lang/Object;Ljava/lang/Object;)Z"⟩] : List MethodName), va_Nw (.interfaceMethod x.cls x.cls x.name x.desc) U
def LW (g : GT) (U : State) : Prop := ∀ (k : Nat) (q : MethodName × Nat × Nat × Lambda.Shape), ls_all[k]? = some q → ls_at U q (gL g k)
/-- no exception of one of the claim's classes is one of another -/
def NC (U : State) : Prop := va_Nc "java/lang/IllegalStateException" "java/lang/IllegalArgumentException" U ∧ va_Nc "java/lang/IllegalArgumentException" "java/lang/IndexOutOfBoundsException" U ∧ va_Nc "java/lang/IllegalStateException" "java/lang/IndexOutOfBoundsException" U
def SV (g : GT) (U : State) : Prop :=
  va_Z "java/util/ArrayList" "DEFAULTCAPACITY_EMPTY_ELEMENTDATA" "[Ljava/lang/Object;" (.ref (gE g)) (fun q => gLo g ≤ q) U (gB g) ∧
  va_Z "java/lang/String" "COMPACT_STRINGS" "Z" (.int 1) (fun q => gLo g ≤ q) U (gB g) ∧
  va_Zq "jdk/internal/util/Preconditions" "SIOOBE_FORMATTER" "Ljava/util/function/BiFunction;" (fun q => gLo g ≤ q) U (gB g) ∧
  vx_Zq Bundle.tN "UNASSIGNED_STACK" Bundle.steD (fun q => gLo g ≤ q) U (gB g) ∧
  vx_Zq Bundle.tN "SUPPRESSED_SENTINEL" Bundle.listD (fun q => gLo g ≤ q) U (gB g) ∧
  va_Mi "[Ljava/lang/Object;" (gMi g) U ∧ va_Dc U ∧ (∃ ce : Cell, (gB g)[gE g]? = some ce ∧ ce.cls = gA g 4 ∧ Int32.ofNat ce.slots.size = 0 ∧ ce.vm ≠ .unknown ∧ ce.vm.isStatics = false) ∧ gE g < gLo g ∧ (gB g).size = gLo g ∧ NC U
def KV (g : GT) (U : State) : Prop := va_K (gD g) vwCl (tysG g) U ∧ NW U ∧ IW U ∧ LW g U ∧ SV g U
def Base (g : GT) (H : Heap) : Prop := gLo g ≤ H.size ∧ (∀ q, q < gLo g → H[q]? = (gB g)[q]?) ∧ ∀ q, H.size ≤ q → gM g q
def rmL (d mc ms : Nat) : Room := { frames := d, cells := mc, slots := ms, locals := 4096 + 64 * d }
theorem NW.warm {s U : State} (hW : s.WarmedH U.vm) (h : NW s) : NW U := by
  intro w hw
  have h1 := h w hw
  have hp := (List.mem_filter.mp hw).2
  have tr : ∀ {c : Cond}, c.onTables = true → c.before #[] (s.setVm U.vm) = true → va_Nw c U := fun hc h => va_tabs hc (rfl : (s.setVm U.vm).vm = U.vm) h
  cases w with
  | fieldLinkNest a i b n d host => exact va_Nw.warmF hW h1
  | methodLinkNest a i x host => exact va_Nw.warmM hW h1
  | declares x => exact tr rfl (by rw [Cond.declares_setVm hW.alike]; exact h1)
  | castable a b => exact tr rfl (by rw [Cond.castable_setVm hW.alike]; exact h1)
  | privateMethod x => exact tr rfl (by rw [Cond.privateMethod_setVm hW.alike]; exact h1)
  | arrayOver ty =>
    cases ty with
    | object C => exact va_AO.moved hW.alike h1
    | _ => cases hp
  | _ => cases hp
theorem IW.warm {s U : State} (hW : s.WarmedH U.vm) (hN : NW s) (h : IW s) : IW U := by
  intro x hx
  have h1 := h x hx
  have tr : ∀ {c : Cond}, c.onTables = true → c.before #[] (s.setVm U.vm) = true → va_Nw c U := fun hc h => va_tabs hc (rfl : (s.setVm U.vm).vm = U.vm) h
  have hd : va_Nw (.declares x) s := by
    refine hN _ (List.mem_filter.mpr ⟨?_, rfl⟩)
    simp only [List.mem_cons, List.not_mem_nil, or_false] at hx
    rcases hx with rfl | rfl
    · exact q552
    · exact q1032
  obtain ⟨r, meth, hn, -⟩ := Cond.declares_spec hd
  have hne : x.cls ≠ "java/lang/invoke/MethodHandle" ∧ x.cls ≠ "java/lang/invoke/VarHandle" := by
    simp only [List.mem_cons, List.not_mem_nil, or_false] at hx
    rcases hx with rfl | rfl <;> exact ⟨by decide, by decide⟩
  exact tr rfl (by rw [Cond.interfaceMethod_setVm hW.alike (r := r) hn hne]; exact h1)
theorem SV.moved {g : GT} {s U : State} (hA : s.vm.Alike U.vm) (h : SV g s) : SV g U := by
  obtain ⟨h1, h2, h3, h4, h5, h6, h7, h8, h9, h10, h11, h12, h13⟩ := h
  exact ⟨h1.moved hA, h2.moved hA, va_Zq.moved hA h3, h4.moved hA, h5.moved hA, h6.moved hA, h7.moved hA, h8, h9, h10, h11.moved hA, h12.moved hA, h13.moved hA⟩
theorem KV.warm {g : GT} {s U : State} (hW : s.WarmedH U.vm) (h : KV g s) : KV g U := by
  obtain ⟨h1, h2, h3, h4, h5⟩ := h
  exact ⟨va_K.moved hW.alike h1, h2.warm hW, h3.warm hW h2, fun k q hq => ls_warm hW (h4 k q hq), h5.moved hW.alike⟩
theorem base_at {p : Program} {l : Launch} {e : Env} {R : Room} {s : State} {m : MethodId} {args : Array Value} {below : List Frame} {meth : Method} {c : Code} {T : State} {locs : List Loc} {cells slots : Nat} {g : GT} (X : Stand p l e R s m args below meth c T locs cells slots) (hL : ∀ q ∈ locs, gLo g ≤ q.base) (hB : Base g s.heap) : Base g T.heap := by
  obtain ⟨h1, h2⟩ := vx_frame X.same
  have h1 : s.heap.size ≤ T.heap.size := h1
  refine ⟨Nat.le_trans hB.1 h1, fun q hq => ?_, fun q hq => hB.2.2 q (Nat.le_trans h1 hq)⟩
  rw [← hB.2.1 q hq]
  exact h2 q (Nat.lt_of_lt_of_le hq hB.1) (fun z hz e => absurd (show gLo g ≤ q by rw [← e]; exact hL z hz) (Nat.not_le.mpr hq))
/-- the start and the end of a contract -/
def Pcg (g : GT) (av : List Value) (P : Heap → Prop) : Array Value → State → Prop := fun v U => v = av.toArray ∧ (KV g U ∧ Base g U.heap) ∧ P U.heap
def Qcg (Po : Option Value → Heap → Heap → Prop) : Array Value → State → Outcome → State → Prop := fun _ st o t => ∃ r, o = .returned r ∧ Po r st.heap t.heap
def fre (g : GT) : Addr → Prop := fun q => gLo g ≤ q
/-- THE CONTRACT of method y: from any heap with P, at most mc cells of ms slots made, its answer r and its heap satisfy Po r (old) (new) -/
def Ct (l : Launch) (g : GT) (y : MethodName) (cc : ByteArray) (maxL : Nat) (ret : Option FieldType) (d mc ms : Nat) (av : List Value) (P : Heap → Prop) (Po : Option Value → Heap → Heap → Prop) : Prop :=
  Met l y (ws_ y cc maxL ret) (rmL d mc ms) (Pcg g av P) (Qcg Po) mc ms (fre g)
/-- what holds all through a method's walk -/
def Cx (p : Program) (g : GT) (s : State) (m : MethodId) (args : Array Value) (meth : Method) (c : Code) (cc : ByteArray) (nL : Nat) (y : MethodName) (ret : Option FieldType) : Prop :=
  p.tables.exec = Jvm.exec ∧ c.code = cc ∧ c.maxLocals = nL ∧ s.vm.findClass y.cls = some m.cls ∧ (∀ w ∈ lw_all, w.before args s = true) ∧ meth.sig.returnType = ret ∧ meth.locks = false ∧ (KV g s ∧ Base g s.heap) ∧ meth.name = y.name
theorem Pcg.blind {g : GT} {av : List Value} {P : Heap → Prop} : FrameBlind (Pcg g av P) := by
  intro a U gj mk h
  obtain ⟨h1, ⟨h2, h3⟩, h4⟩ := h
  exact ⟨h1, ⟨h2.warm (U := U.calling gj mk a) (State.WarmedH.refl U), h3⟩, h4⟩
theorem Ct.of {l : Launch} {g : GT} {y : MethodName} {cc : ByteArray} {maxL : Nat} {ret : Option FieldType} {d mc ms : Nat} {av : List Value} {P : Heap → Prop} {Po : Option Value → Heap → Heap → Prop} (hy : plainName y.cls = true) (hn : (lg_sl av).length ≤ maxL)
    (body : ∀ (p : Program) (e : Env) (s : State) (m : MethodId) (args : Array Value) (below : List Frame) (meth : Method) (c : Code), Cx p g s m args meth c cc maxL y ret → P s.heap → ∀ ls, lv_has ls maxL (lv_args 0 av) → W p l e (rmL d mc ms) s m args below meth c s.heap [] 0 0 (MQ below (Qcg Po) args s mc ms (fre g)) (F0 m 0 ls [])) :
    Ct l g y cc maxL ret d mc ms av P Po := by
  refine Met.ofW (cc := cc) (maxL := maxL) (ret := ret) hy rfl ?_
  intro p e s m args below meth c s₁ B hml hv
  obtain ⟨rfl, hKB, hP⟩ := hv
  have hts := atoms_spec (ws := ws_ y cc maxL ret) B.pre
  have hts : ∀ w ∈ lw_all, w.before av.toArray s = true := fun w h => hts w (List.mem_cons_of_mem _ h)
  have hl := lv_entry av (n := maxL) hn
  rw [lg_entry_eq]
  generalize (lg_sl av ++ List.replicate (maxL - (lg_sl av).length) Slot.unset).toArray = ls at hl ⊢
  exact body p e s m _ below meth c ⟨B.exec, B.bytes, hml, findClass_of_methodNamed B.named, hts, B.returns, B.notSynchronized, hKB, (name_of_methodNamed B.named B.method).1⟩ hP ls hl
/-! ends -/
section ENDS
variable {p : Program} {l : Launch} {e : Env} {R : Room} {s : State} {m : MethodId} {args : Array Value} {below : List Frame} {meth : Method} {c : Code} {H : Heap} {locs : List Loc} {cells slots mc ms : Nat} {Q : State → Prop}
variable {cc : ByteArray} {nL pc : Nat} {ls : Array Slot} {y : MethodName} {ret : Option FieldType} {g : GT} {Po : Option Value → Heap → Heap → Prop}
theorem r_iret {v : Int32} {ty : FieldType} (X : Cx p g s m args meth c cc nL y ret) (hL : ∀ q ∈ locs, gLo g ≤ q.base) (hr : ret = some ty) (hn : narrow ty (.int v) = .int v) (hdg : decode cc pc = .ok (.ireturn, 1)) (hc : cells ≤ mc) (hs : slots ≤ ms) (hq : Po (some (.int v)) s.heap H) :
    W p l e R s m args below meth c H locs cells slots (MQ below (Qcg Po) args s mc ms (fre g)) (F0 m pc ls [.int v]) := by
  obtain ⟨hx, hb, hml, hown, hts, hrt, hlk, hKB, hnm⟩ := X
  refine W.widen hc hs ?_
  exact W.zret hx hb (hrt.trans hr) hn (fun t ht hW => ⟨_, rfl, by rw [ht]; exact hq⟩) hL hdg hlk
theorem r_lret {v : Int64} (X : Cx p g s m args meth c cc nL y (some .long)) (hL : ∀ q ∈ locs, gLo g ≤ q.base) (hdg : decode cc pc = .ok (.lreturn, 1)) (hc : cells ≤ mc) (hs : slots ≤ ms) (hq : Po (some (.long v)) s.heap H) :
    W p l e R s m args below meth c H locs cells slots (MQ below (Qcg Po) args s mc ms (fre g)) (F0 m pc ls [.long v]) := by
  obtain ⟨hx, hb, hml, hown, hts, hrt, hlk, hKB, hnm⟩ := X
  refine W.widen hc hs ?_
  exact W.lret hx hb hrt (fun t ht hW => ⟨_, rfl, by rw [ht]; exact hq⟩) hL hdg hlk
theorem r_dret {v : UInt64} (X : Cx p g s m args meth c cc nL y (some .double)) (hL : ∀ q ∈ locs, gLo g ≤ q.base) (hdg : decode cc pc = .ok (.dreturn, 1)) (hc : cells ≤ mc) (hs : slots ≤ ms) (hq : Po (some (.double v)) s.heap H) :
    W p l e R s m args below meth c H locs cells slots (MQ below (Qcg Po) args s mc ms (fre g)) (F0 m pc ls [.double v]) := by
  obtain ⟨hx, hb, hml, hown, hts, hrt, hlk, hKB, hnm⟩ := X
  refine W.widen hc hs ?_
  exact W.dret hx hb hrt (fun t ht hW => ⟨_, rfl, by rw [ht]; exact hq⟩) hL hdg hlk
theorem r_vret (X : Cx p g s m args meth c cc nL y none) (hL : ∀ q ∈ locs, gLo g ≤ q.base) (hdg : decode cc pc = .ok (.return_, 1)) (hc : cells ≤ mc) (hs : slots ≤ ms) (hq : Po none s.heap H) :
    W p l e R s m args below meth c H locs cells slots (MQ below (Qcg Po) args s mc ms (fre g)) (F0 m pc ls []) := by
  obtain ⟨hx, hb, hml, hown, hts, hrt, hlk, hKB, hnm⟩ := X
  refine W.widen hc hs ?_
  exact W.vret hx hb hrt (fun t ht hW => ⟨_, rfl, by rw [ht]; exact hq⟩) hL hdg hlk
theorem r_aret {v : Value} {rt : FieldType} (X : Cx p g s m args meth c cc nL y ret) (hL : ∀ q ∈ locs, gLo g ≤ q.base) (hr : ret = some rt) (hrt : (∃ n, rt = .object n) ∨ ∃ t, rt = .array t) (hv : v = .null ∨ ∃ a, v = .ref a) (hdg : decode cc pc = .ok (.areturn, 1)) (hc : cells ≤ mc) (hs : slots ≤ ms) (hq : Po (some v) s.heap H) :
    W p l e R s m args below meth c H locs cells slots (MQ below (Qcg Po) args s mc ms (fre g)) (F0 m pc ls [v]) := by
  obtain ⟨hx, hb, hml, hown, hts, hrt', hlk, hKB, hnm⟩ := X
  refine W.widen hc hs ?_
  exact W.aret hx hb (hrt'.trans hr) hrt hv (fun t ht hW => ⟨_, rfl, by rw [ht]; exact hq⟩) hL hdg hlk
end ENDS
/-! calls -/
/-- what every call of y rests on: its words -/
def VB (y : MethodName) (cc : ByteArray) (maxL : Nat) (ret : Option FieldType) (n : Nat) : Prop :=
  Cond.instanceMethod y ∈ lw_all ∧ Cond.selects y.cls y y ∈ lw_all ∧ Cond.initialized y.cls ∈ lw_all ∧ Cond.code y cc maxL ret ∈ lw_all ∧ (y.cls ≠ "java/lang/invoke/MethodHandle" ∧ y.cls ≠ "java/lang/invoke/VarHandle" ∧ (parseMethodDescriptor y.desc).map (fun d => d.parameters.length) = some n)
def SB (y : MethodName) (cc : ByteArray) (maxL : Nat) (ret : Option FieldType) (n : Nat) : Prop :=
  Cond.static y ∈ lw_all ∧ Cond.initialized y.cls ∈ lw_all ∧ Cond.code y cc maxL ret ∈ lw_all ∧ (y.cls ≠ "java/lang/invoke/MethodHandle" ∧ y.cls ≠ "java/lang/invoke/VarHandle" ∧ (parseMethodDescriptor y.desc).map (fun d => d.parameters.length) = some n)
def IB (y : MethodName) (cc : ByteArray) (maxL : Nat) (n : Nat) : Prop :=
  Cond.instanceMethod y ∈ lw_all ∧ Cond.initialized y.cls ∈ lw_all ∧ Cond.code y cc maxL none ∈ lw_all ∧ y.name = "<init>" ∧ (y.cls ≠ "java/lang/invoke/MethodHandle" ∧ y.cls ≠ "java/lang/invoke/VarHandle" ∧ (parseMethodDescriptor y.desc).map (fun d => d.parameters.length) = some n)
section CALLS
variable {p : Program} {l : Launch} {e : Env} {R : Room} {s : State} {m : MethodId} {args : Array Value} {below : List Frame} {meth : Method} {c : Code} {H : Heap} {locs : List Loc} {cells slots mc ms d : Nat} {Q : State → Prop}
variable {cc cc' : ByteArray} {nL pc maxL n index mc' ms' d' : Nat} {ls : Array Slot} {y y' : MethodName} {ret ret' : Option FieldType} {g : GT} {P : Heap → Prop} {Po : Option Value → Heap → Heap → Prop} {b : Nat} {As rest : List Value} {st : List Value} {lv : List (Nat × Value)}
theorem run_go {a : Array Value} (hL : ∀ q ∈ locs, gLo g ≤ q.base) (hr : va_Run p l e R s m args below meth c H locs cells slots mc' ms' (F0 m pc ls st) rest (Qcg Po a) (fre g))
    (kk : ∀ (r : Option Value) (H1 : Heap) (locs1 : List Loc), (∀ q ∈ locs1, gLo g ≤ q.base) → Po r H H1 → W p l e R s m args below meth c H1 locs1 (cells + mc') (slots + ms') Q (F0 m (pc + 3) ls (r.toList ++ rest))) : W p l e R s m args below meth c H locs cells slots Q (F0 m pc ls st) := by
  intro T hT X
  obtain ⟨v, st₀, t, T', L, h0, X', hL', e1, e2, ⟨r, hv, hp⟩, stp⟩ := hr T hT X
  cases hv
  rw [h0] at hp
  obtain ⟨t2, a1, b1⟩ := kk v T'.heap (locs ++ L) (fun q hq => (List.mem_append.mp hq).elim (hL q) (hL' q)) (by rw [e1]; exact hp) T' rfl X'
  exact ⟨t2, stp t2 a1, b1⟩
theorem Ct.callV (hM : Ct l g y' cc' maxL ret' d' mc' ms' (.ref b :: As) P Po) (X : Cx p g s m args meth c cc nL y ret) (hL : ∀ q ∈ locs, gLo g ≤ q.base) (hl : lv_has ls nL lv) (hV : VB y' cc' maxL ret' n) (hlink : Cond.methodLink y.cls index y' ∈ lw_all)
    (hcell : ∃ cellB : Cell, H[b]? = some cellB ∧ cellB.vm.isStatics = false ∧ s.vm.findClass y'.cls = some cellB.cls) (hn : As.length = n) (hst : st = As.reverse ++ .ref b :: rest) (hW : (rest.map fun v => v.category).sum ≤ 8) (hdg : decode cc pc = .ok (.invokevirtual index, 3))
    (hR : d' + 1 ≤ d ∧ 8 + (maxL + 11) ≤ 64) (hc : cells + mc' ≤ mc) (hs : slots + ms' ≤ ms) (hP : P H)
    (kk : ∀ (r : Option Value) (H1 : Heap) (locs1 : List Loc), (∀ q ∈ locs1, gLo g ≤ q.base) → Po r H H1 → W p l e (rmL d mc ms) s m args below meth c H1 locs1 (cells + mc') (slots + ms') Q (F0 m (pc + 3) ls (r.toList ++ rest))) :
    W p l e (rmL d mc ms) s m args below meth c H locs cells slots Q (F0 m pc ls st) := by
  obtain ⟨hx, hb, hml, hown, hts, hrt, hlk, ⟨hKV, hB⟩, hnm⟩ := X
  obtain ⟨v1, v2, v3, v4, v5⟩ := hV
  intro T hT XT
  have hBH : Base g H := by rw [← hT]; exact base_at XT hL hB
  have hR' : (rmL d' mc' ms').frames + 1 ≤ (rmL d mc ms).frames ∧ 8 + (maxL + 11) + (rmL d' mc' ms').locals ≤ (rmL d mc ms).locals := by
    refine ⟨hR.1, ?_⟩
    show 8 + (maxL + 11) + (4096 + 64 * d') ≤ 4096 + 64 * d
    omega
  exact run_go hL (va_runV (C := y'.cls) (index := index) (As := As) (b := b) (n := n) (Ts := lw_all) ⟨hx, hb, hml, hown, hts⟩ hM (cwV n hts (lw_V hlink v1 v2 v3 v4) rfl rfl rfl ⟨rfl, v5⟩ hR') ⟨Pcg.blind, hcell, fun U hU hW => ⟨rfl, ⟨hKV.warm hW, by rw [hU]; exact hBH⟩, by rw [hU]; exact hP⟩⟩ rfl hn hl.1 hst (by show 2 * 0 + _ ≤ 8; omega) hdg ⟨hc, hs⟩) kk T hT XT
theorem Ct.callS (hM : Ct l g y' cc' maxL ret' d' mc' ms' As P Po) (X : Cx p g s m args meth c cc nL y ret) (hL : ∀ q ∈ locs, gLo g ≤ q.base) (hl : lv_has ls nL lv) (hV : SB y' cc' maxL ret' n) (hlink : Cond.methodLink y.cls index y' ∈ lw_all)
    (hn : As.length = n) (hst : st = As.reverse ++ rest) (hW : (rest.map fun v => v.category).sum ≤ 8) (hdg : decode cc pc = .ok (.invokestatic index, 3))
    (hR : d' + 1 ≤ d ∧ 8 + (maxL + 11) ≤ 64) (hc : cells + mc' ≤ mc) (hs : slots + ms' ≤ ms) (hP : P H)
    (kk : ∀ (r : Option Value) (H1 : Heap) (locs1 : List Loc), (∀ q ∈ locs1, gLo g ≤ q.base) → Po r H H1 → W p l e (rmL d mc ms) s m args below meth c H1 locs1 (cells + mc') (slots + ms') Q (F0 m (pc + 3) ls (r.toList ++ rest))) :
    W p l e (rmL d mc ms) s m args below meth c H locs cells slots Q (F0 m pc ls st) := by
  obtain ⟨hx, hb, hml, hown, hts, hrt, hlk, ⟨hKV, hB⟩, hnm⟩ := X
  obtain ⟨v1, v2, v3, v4⟩ := hV
  intro T hT XT
  have hBH : Base g H := by rw [← hT]; exact base_at XT hL hB
  have hR' : (rmL d' mc' ms').frames + 1 ≤ (rmL d mc ms).frames ∧ 8 + (maxL + 11) + (rmL d' mc' ms').locals ≤ (rmL d mc ms).locals := by
    refine ⟨hR.1, ?_⟩
    show 8 + (maxL + 11) + (4096 + 64 * d') ≤ 4096 + 64 * d
    omega
  exact run_go hL (va_runS (index := index) (As := As) (n := n) (Ts := lw_all) ⟨hx, hb, hml, hown, hts⟩ hM (va_cwS n hts (lw_S hlink v1 v2 v3) rfl rfl rfl v4 hR') ⟨Pcg.blind, fun U hU hW => ⟨rfl, ⟨hKV.warm hW, by rw [hU]; exact hBH⟩, by rw [hU]; exact hP⟩⟩ rfl hn hl.1 hst (by show 2 * 0 + _ ≤ 8; omega) hdg ⟨hc, hs⟩) kk T hT XT
theorem Ct.callI (hM : Ct l g y' cc' maxL none d' mc' ms' (.ref b :: As) P Po) (X : Cx p g s m args meth c cc nL y ret) (hL : ∀ q ∈ locs, gLo g ≤ q.base) (hl : lv_has ls nL lv) (hV : IB y' cc' maxL n) (hlink : Cond.methodLink y.cls index y' ∈ lw_all)
    (hn : As.length = n) (hst : st = As.reverse ++ .ref b :: rest) (hW : (rest.map fun v => v.category).sum ≤ 8) (hdg : decode cc pc = .ok (.invokespecial index, 3))
    (hR : d' + 1 ≤ d ∧ 8 + (maxL + 11) ≤ 64) (hc : cells + mc' ≤ mc) (hs : slots + ms' ≤ ms) (hP : P H)
    (kk : ∀ (r : Option Value) (H1 : Heap) (locs1 : List Loc), (∀ q ∈ locs1, gLo g ≤ q.base) → Po r H H1 → W p l e (rmL d mc ms) s m args below meth c H1 locs1 (cells + mc') (slots + ms') Q (F0 m (pc + 3) ls (r.toList ++ rest))) :
    W p l e (rmL d mc ms) s m args below meth c H locs cells slots Q (F0 m pc ls st) := by
  obtain ⟨hx, hb, hml, hown, hts, hrt, hlk, ⟨hKV, hB⟩, hnm⟩ := X
  obtain ⟨v1, v3, v4, v5, v6⟩ := hV
  intro T hT XT
  have hBH : Base g H := by rw [← hT]; exact base_at XT hL hB
  have hR' : (rmL d' mc' ms').frames + 1 ≤ (rmL d mc ms).frames ∧ 8 + (maxL + 11) + (rmL d' mc' ms').locals ≤ (rmL d mc ms).locals := by
    refine ⟨hR.1, ?_⟩
    show 8 + (maxL + 11) + (4096 + 64 * d') ≤ 4096 + 64 * d
    omega
  exact run_go hL (va_runI (index := index) (As := As) (b := b) (n := n) (Ts := lw_all) ⟨hx, hb, hml, hown, hts⟩ hM (cwI n hts (lw_meth v4) rfl rfl rfl (hts _ v3) (hts _ hlink) (hts _ v1) v5 v6 hR') ⟨Pcg.blind, fun U hU hW => ⟨rfl, ⟨hKV.warm hW, by rw [hU]; exact hBH⟩, by rw [hU]; exact hP⟩⟩ rfl hn hl.1 hst (by show 2 * 0 + _ ≤ 8; omega) hdg ⟨hc, hs⟩) kk T hT XT
end CALLS
