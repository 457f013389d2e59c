/-! methods that may throw -/
def XCg (PX : String → Heap → Heap → Prop) : String → State → State → Prop := fun E st t => PX E st.heap t.heap
/-- THE CONTRACT of a method that may throw: PX tells of the class of what is thrown, the heap ahead and behind -/
def Ce (l : Launch) (g : GT) (y : MethodName) (cc : ByteArray) (maxL : Nat) (ret : Option FieldType) (d mc ms : Nat) (av : List Value) (P : Heap → Prop) (Po : Option Value → Heap → Heap → Prop) (PX : String → Heap → Heap → Prop) : Prop :=
  vx_Met l y (ws_ y cc maxL ret) (rmL d mc ms) (Pcg g av P) (Qcg Po) (XCg PX) mc ms (fre g)
theorem Ce.of {l : Launch} {g : GT} {y : MethodName} {cc : ByteArray} {maxL : Nat} {ret : Option FieldType} {d mc ms : Nat} {av : List Value} {P : Heap → Prop} {Po : Option Value → Heap → Heap → Prop} {PX : String → Heap → Heap → Prop} (hy : plainName y.cls = true) (hn : (lg_sl av).length ≤ maxL)
    (body : ∀ (p : Program) (e : Env) (s : State) (m : MethodId) (args : Array Value) (below : List Frame) (meth : Method) (c : Code), Cx p g s m args meth c cc maxL y ret → (∀ x ∈ c.exceptionTable.toList, False) → P s.heap → ∀ ls, lv_has ls maxL (lv_args 0 av) → W p l e (rmL d mc ms) s m args below meth c s.heap [] 0 0 (vx_MQ below (Qcg Po) (XCg PX) args s mc ms (fre g)) (F0 m 0 ls [])) :
    Ce l g y cc maxL ret d mc ms av P Po PX := by
  refine vx_ofW (cc := cc) (maxL := maxL) (ret := ret) hy rfl ?_
  intro p e s m args below meth c s₁ B hml ht hv
  obtain ⟨rfl, hKB, hP⟩ := hv
  have hts := atoms_spec (ws := ws_ y cc maxL ret) B.pre
  have hts : ∀ w ∈ lw_all, w.before av.toArray s = true := fun w h => hts w (List.mem_cons_of_mem _ h)
  have hl := lv_entry av (n := maxL) hn
  rw [lg_entry_eq]
  generalize (lg_sl av ++ List.replicate (maxL - (lg_sl av).length) Slot.unset).toArray = ls at hl ⊢
  exact body p e s m _ below meth c ⟨B.exec, B.bytes, hml, findClass_of_methodNamed B.named, hts, B.returns, B.notSynchronized, hKB, (name_of_methodNamed B.named B.method).1⟩ ht hP ls hl
section EXCALLS
variable {p : Program} {l : Launch} {e : Env} {R : Room} {s : State} {m : MethodId} {args : Array Value} {below : List Frame} {meth : Method} {c : Code} {H : Heap} {locs : List Loc} {cells slots mc ms d : Nat} {Q : State → Prop}
variable {cc cc' : ByteArray} {nL pc maxL n index mc' ms' d' : Nat} {ls : Array Slot} {y y' : MethodName} {ret ret' : Option FieldType} {g : GT} {P : Heap → Prop} {Po Po0 : Option Value → Heap → Heap → Prop} {PX PX' : String → Heap → Heap → Prop} {b : Nat} {As rest : List Value} {st : List Value} {lv : List (Nat × Value)}
/-- from a run that may throw: on, or over to the frame with what was thrown -/
theorem runX_go {a : Array Value} (hL : ∀ q ∈ locs, gLo g ≤ q.base) (hr : vx_Run p l e R s m args below meth c H locs cells slots mc' ms' (F0 m pc ls st) rest (Qcg Po a) (XCg PX') (fre g))
    (kx : ∀ (E : String) (ce : Cell) (q : Addr) (H1 : Heap) (locs1 : List Loc), (∀ q ∈ locs1, gLo g ≤ q.base) → PX' E H H1 → H1[q]? = some ce → ce.vm = .none → s.vm.findClass E = some ce.cls → vx_W p l e R s m args below meth c H1 locs1 (cells + mc') (slots + ms') Q (F0 m pc ls rest) q)
    (kk : ∀ (r : Option Value) (H1 : Heap) (locs1 : List Loc), (∀ q ∈ locs1, gLo g ≤ q.base) → Po r H H1 → W p l e R s m args below meth c H1 locs1 (cells + mc') (slots + ms') Q (F0 m (pc + 3) ls (r.toList ++ rest))) : W p l e R s m args below meth c H locs cells slots Q (F0 m pc ls st) := by
  intro T hT X
  have happ : ∀ L : List Loc, (∀ q ∈ L, fre g q.base) → ∀ q ∈ locs ++ L, gLo g ≤ q.base := fun L hLq q hq => by
    rcases List.mem_append.mp hq with h | h
    · exact hL q h
    · exact hLq q h
  rcases hr T hT X with ⟨v, st₀, t, T', L, h0, X', hLq, e1, e2, ⟨r, hv, hp⟩, hst⟩ | ⟨q, st₀, t, T', L, E, ce, h0, X', hLq, e1, e2, hp, hce, hcv, hcl, hst⟩
  · cases hv
    rw [h0, ← e1] at hp
    obtain ⟨t2, a1, b1⟩ := kk _ T'.heap (locs ++ L) (happ L hLq) hp T' rfl X'
    exact ⟨t2, hst t2 a1, b1⟩
  · have hp : PX' E H T'.heap := by
      have hp : PX' E st₀.heap t.heap := hp
      rw [h0, ← e1] at hp; exact hp
    obtain ⟨t2, a1, b1⟩ := kx E ce q T'.heap (locs ++ L) (happ L hLq) hp (by rw [e1]; exact hce) hcv hcl T' rfl X'
    exact ⟨t2, hst.trans a1, b1⟩
/-- not caught here -/
theorem r_out {E : String} {ce : Cell} {q : Addr} (X : Cx p g s m args meth c cc nL y ret) (ht : ∀ x ∈ c.exceptionTable.toList, False) (hL : ∀ q ∈ locs, gLo g ≤ q.base) (hce : H[q]? = some ce) (hcv : ce.vm = .none) (hcl : s.vm.findClass E = some ce.cls) (hc : cells ≤ mc) (hs : slots ≤ ms) (hx : PX E s.heap H) :
    vx_W p l e R s m args below meth c H locs cells slots (vx_MQ below (Qcg Po0) (XCg PX) args s mc ms (fre g)) (F0 m pc ls rest) q :=
  vx_out (fun x h => (ht x h).elim) X.2.2.2.2.2.2.1 hce hcv hcl (fun t e _ => by show PX E s.heap t.heap; rw [e]; exact hx) hL hc hs
theorem Ce.runV (hM : Ce l g y' cc' maxL ret' d' mc' ms' (.ref b :: As) P Po PX') (X : Cx p g s m args meth c cc nL y ret) (hL : ∀ q ∈ locs, gLo g ≤ q.base) (hl : lv_has ls nL lv) (hV : VB y' cc' maxL ret' n) (hlink : Cond.methodLink y.cls index y' ∈ lw_all)
    (hcell : ∃ cellB : Cell, H[b]? = some cellB ∧ cellB.vm.isStatics = false ∧ s.vm.findClass y'.cls = some cellB.cls) (hn : As.length = n) (hst : st = As.reverse ++ .ref b :: rest) (hW : (rest.map fun v => v.category).sum ≤ 8) (hdg : decode cc pc = .ok (.invokevirtual index, 3))
    (hR : d' + 1 ≤ d ∧ 8 + (maxL + 11) ≤ 64) (hc : cells + mc' ≤ mc) (hs : slots + ms' ≤ ms) (hP : P H)
    (kx : ∀ (E : String) (ce : Cell) (q : Addr) (H1 : Heap) (locs1 : List Loc), (∀ q ∈ locs1, gLo g ≤ q.base) → PX' E H H1 → H1[q]? = some ce → ce.vm = .none → s.vm.findClass E = some ce.cls → vx_W p l e (rmL d mc ms) s m args below meth c H1 locs1 (cells + mc') (slots + ms') Q (F0 m pc ls rest) q)
    (kk : ∀ (r : Option Value) (H1 : Heap) (locs1 : List Loc), (∀ q ∈ locs1, gLo g ≤ q.base) → Po r H H1 → W p l e (rmL d mc ms) s m args below meth c H1 locs1 (cells + mc') (slots + ms') Q (F0 m (pc + 3) ls (r.toList ++ rest))) :
    W p l e (rmL d mc ms) s m args below meth c H locs cells slots Q (F0 m pc ls st) := by
  obtain ⟨hx, hb, hml, hown, hts, hrt, hlk, ⟨hKV, hB⟩, hnm⟩ := X
  obtain ⟨v1, v2, v3, v4, v5⟩ := hV
  intro T hT XT
  have hBH : Base g H := by rw [← hT]; exact base_at XT hL hB
  have hR' : (rmL d' mc' ms').frames + 1 ≤ (rmL d mc ms).frames ∧ 8 + (maxL + 11) + (rmL d' mc' ms').locals ≤ (rmL d mc ms).locals := by
    refine ⟨hR.1, ?_⟩
    show 8 + (maxL + 11) + (4096 + 64 * d') ≤ 4096 + 64 * d
    omega
  exact runX_go hL (vx_runV (C := y'.cls) (index := index) (As := As) (b := b) (n := n) (Ts := lw_all) ⟨hx, hb, hml, hown, hts⟩ hM (cwV n hts (lw_V hlink v1 v2 v3 v4) rfl rfl rfl ⟨rfl, v5⟩ hR') ⟨Pcg.blind, hcell, fun U hU hW => ⟨rfl, ⟨hKV.warm hW, by rw [hU]; exact hBH⟩, by rw [hU]; exact hP⟩⟩ rfl hn hl.1 hst (by show 2 * 0 + _ ≤ 8; omega) hdg ⟨hc, hs⟩) kx kk T hT XT
theorem Ce.runS (hM : Ce l g y' cc' maxL ret' d' mc' ms' As P Po PX') (X : Cx p g s m args meth c cc nL y ret) (hL : ∀ q ∈ locs, gLo g ≤ q.base) (hl : lv_has ls nL lv) (hV : SB y' cc' maxL ret' n) (hlink : Cond.methodLink y.cls index y' ∈ lw_all)
    (hn : As.length = n) (hst : st = As.reverse ++ rest) (hW : (rest.map fun v => v.category).sum ≤ 8) (hdg : decode cc pc = .ok (.invokestatic index, 3))
    (hR : d' + 1 ≤ d ∧ 8 + (maxL + 11) ≤ 64) (hc : cells + mc' ≤ mc) (hs : slots + ms' ≤ ms) (hP : P H)
    (kx : ∀ (E : String) (ce : Cell) (q : Addr) (H1 : Heap) (locs1 : List Loc), (∀ q ∈ locs1, gLo g ≤ q.base) → PX' E H H1 → H1[q]? = some ce → ce.vm = .none → s.vm.findClass E = some ce.cls → vx_W p l e (rmL d mc ms) s m args below meth c H1 locs1 (cells + mc') (slots + ms') Q (F0 m pc ls rest) q)
    (kk : ∀ (r : Option Value) (H1 : Heap) (locs1 : List Loc), (∀ q ∈ locs1, gLo g ≤ q.base) → Po r H H1 → W p l e (rmL d mc ms) s m args below meth c H1 locs1 (cells + mc') (slots + ms') Q (F0 m (pc + 3) ls (r.toList ++ rest))) :
    W p l e (rmL d mc ms) s m args below meth c H locs cells slots Q (F0 m pc ls st) := by
  obtain ⟨hx, hb, hml, hown, hts, hrt, hlk, ⟨hKV, hB⟩, hnm⟩ := X
  obtain ⟨v1, v2, v3, v4⟩ := hV
  intro T hT XT
  have hBH : Base g H := by rw [← hT]; exact base_at XT hL hB
  have hR' : (rmL d' mc' ms').frames + 1 ≤ (rmL d mc ms).frames ∧ 8 + (maxL + 11) + (rmL d' mc' ms').locals ≤ (rmL d mc ms).locals := by
    refine ⟨hR.1, ?_⟩
    show 8 + (maxL + 11) + (4096 + 64 * d') ≤ 4096 + 64 * d
    omega
  exact runX_go hL (vx_runS (index := index) (As := As) (n := n) (Ts := lw_all) ⟨hx, hb, hml, hown, hts⟩ hM (va_cwS n hts (lw_S hlink v1 v2 v3) rfl rfl rfl v4 hR') ⟨Pcg.blind, fun U hU hW => ⟨rfl, ⟨hKV.warm hW, by rw [hU]; exact hBH⟩, by rw [hU]; exact hP⟩⟩ rfl hn hl.1 hst (by show 2 * 0 + _ ≤ 8; omega) hdg ⟨hc, hs⟩) kx kk T hT XT
/-- called where nothing is caught: what it throws goes on -/
theorem Ce.callV (hM : Ce l g y' cc' maxL ret' d' mc' ms' (.ref b :: As) P Po PX') (X : Cx p g s m args meth c cc nL y ret) (ht : ∀ x ∈ c.exceptionTable.toList, False) (hL : ∀ q ∈ locs, gLo g ≤ q.base) (hl : lv_has ls nL lv) (hV : VB y' cc' maxL ret' n) (hlink : Cond.methodLink y.cls index y' ∈ lw_all)
    (hcell : ∃ cellB : Cell, H[b]? = some cellB ∧ cellB.vm.isStatics = false ∧ s.vm.findClass y'.cls = some cellB.cls) (hn : As.length = n) (hst : st = As.reverse ++ .ref b :: rest) (hW : (rest.map fun v => v.category).sum ≤ 8) (hdg : decode cc pc = .ok (.invokevirtual index, 3))
    (hR : d' + 1 ≤ d ∧ 8 + (maxL + 11) ≤ 64) (hc : cells + mc' ≤ mc) (hs : slots + ms' ≤ ms) (hP : P H) (kx : ∀ E H1, PX' E H H1 → PX E s.heap H1)
    (kk : ∀ (r : Option Value) (H1 : Heap) (locs1 : List Loc), (∀ q ∈ locs1, gLo g ≤ q.base) → Po r H H1 → W p l e (rmL d mc ms) s m args below meth c H1 locs1 (cells + mc') (slots + ms') (vx_MQ below (Qcg Po0) (XCg PX) args s mc ms (fre g)) (F0 m (pc + 3) ls (r.toList ++ rest))) :
    W p l e (rmL d mc ms) s m args below meth c H locs cells slots (vx_MQ below (Qcg Po0) (XCg PX) args s mc ms (fre g)) (F0 m pc ls st) :=
  Ce.runV hM X hL hl hV hlink hcell hn hst hW hdg hR hc hs hP (fun E ce q H1 locs1 hL1 hp hce hcv hcl => r_out X ht hL1 hce hcv hcl hc hs (kx E H1 hp)) kk
theorem Ce.callS (hM : Ce l g y' cc' maxL ret' d' mc' ms' As P Po PX') (X : Cx p g s m args meth c cc nL y ret) (ht : ∀ x ∈ c.exceptionTable.toList, False) (hL : ∀ q ∈ locs, gLo g ≤ q.base) (hl : lv_has ls nL lv) (hV : SB y' cc' maxL ret' n) (hlink : Cond.methodLink y.cls index y' ∈ lw_all)
    (hn : As.length = n) (hst : st = As.reverse ++ rest) (hW : (rest.map fun v => v.category).sum ≤ 8) (hdg : decode cc pc = .ok (.invokestatic index, 3))
    (hR : d' + 1 ≤ d ∧ 8 + (maxL + 11) ≤ 64) (hc : cells + mc' ≤ mc) (hs : slots + ms' ≤ ms) (hP : P H) (kx : ∀ E H1, PX' E H H1 → PX E s.heap H1)
    (kk : ∀ (r : Option Value) (H1 : Heap) (locs1 : List Loc), (∀ q ∈ locs1, gLo g ≤ q.base) → Po r H H1 → W p l e (rmL d mc ms) s m args below meth c H1 locs1 (cells + mc') (slots + ms') (vx_MQ below (Qcg Po0) (XCg PX) args s mc ms (fre g)) (F0 m (pc + 3) ls (r.toList ++ rest))) :
    W p l e (rmL d mc ms) s m args below meth c H locs cells slots (vx_MQ below (Qcg Po0) (XCg PX) args s mc ms (fre g)) (F0 m pc ls st) :=
  Ce.runS hM X hL hl hV hlink hn hst hW hdg hR hc hs hP (fun E ce q H1 locs1 hL1 hp hce hcv hcl => r_out X ht hL1 hce hcv hcl hc hs (kx E H1 hp)) kk
/-- 'throw new E()' where nothing is caught -/
theorem r_throw0 {cls : String} {names : List String} {ik ic : Nat} (hl0 : l.stackTraces = false) (X : Cx p g s m args meth c cc nL y ret) (ht : ∀ x ∈ c.exceptionTable.toList, False) (hL : ∀ q ∈ locs, gLo g ≤ q.base) (hl : lv_has ls nL lv)
    (hcls : Bundle.fit cls = true) (hnames : ∀ n ∈ names, Bundle.fit n = true) (hk : Cond.classLink y.cls ik cls ∈ lw_all) (hini : Cond.initialized cls ∈ lw_all) (hat : ∀ w ∈ vx_at0 y.cls ic cls names, w.before args s = true) (hgood : ∀ w ∈ Cond.classLink y.cls ik cls :: Cond.initialized cls :: vx_at0 y.cls ic cls names, vx_ot w = true)
    (d0 : decode cc pc = .ok (.new ik, 3)) (d3 : decode cc (pc + 3) = .ok (.dup, 1)) (d4 : decode cc (pc + 4) = .ok (.invokespecial ic, 3)) (d7 : decode cc (pc + 7) = .ok (.athrow, 1))
    (hf : names.length + 3 < d) (hf2 : names.length ≤ 20) (hc : cells + 1 ≤ mc) (hs : slots + 6 ≤ ms) (hpx : ∀ H1, Ext H H1 → PX cls s.heap H1) :
    W p l e (rmL d mc ms) s m args below meth c H locs cells slots (vx_MQ below (Qcg Po0) (XCg PX) args s mc ms (fre g)) (F0 m pc ls []) := by
  obtain ⟨hx, hb, hml, hown, hts, hrt, hlk, ⟨hKV, hB⟩, hnm⟩ := X
  intro T hT XT
  have hBH : Base g H := by rw [← hT]; exact base_at XT hL hB
  obtain ⟨-, -, -, -, -, -, -, hU, hN, -⟩ := hKV
  have hk0 : ∀ a : Nat, a < (gB g).size → ¬ gLo g ≤ a → s.heap[a]? = (gB g)[a]? := fun a _ h => hB.2.1 a (Nat.not_le.mp h)
  refine vx_throw0 (A := fun q => gLo g ≤ q) hx hb hl0 hown hcls hnames (hts _ hk) (hts _ hini) hat hgood (hU.kept hk0) (hN.kept hk0) ⟨?_, fun q _ h => ?_, hL⟩ (hl.1.trans hml.symm) d0 d3 d4 d7 (fun x h => (ht x h).elim) hf ?_ hc hs hlk (fun t _ h1 h2 => hpx t.heap ⟨h1, h2⟩) hL hc hs T hT XT
  · obtain ⟨h1, -⟩ := vx_frame XT.same
    have h1 : s.heap.size ≤ T.heap.size := h1
    rw [hT] at h1; exact h1
  · rw [hBH.2.1 q (Nat.not_le.mp h), hB.2.1 q (Nat.not_le.mp h)]
  · show 0 + (13 * (names.length + 1) + 42) ≤ 4096 + 64 * d
    omega
end EXCALLS
def nwb (w : Cond) : Bool := match w with
  | .fieldLinkNest .. => true
  | .methodLinkNest .. => true
  | .declares _ => true
  | .castable .. => true
  | .arrayOver (.object _) => true
  | .privateMethod _ => true
  | _ => false
theorem nw_all {args : Array Value} {s : State} {L : List Cond} (hts : ∀ w ∈ lw_all, w.before args s = true) (hN : NW s) (h1 : ∀ w ∈ L, w ∈ lw_tbl) (h2 : (L.all fun w => goodWord w || (nwb w && w.onTables)) = true) : ∀ w ∈ L, w.before args s = true := fun w hw => by
  have h := List.all_eq_true.mp h2 w hw
  rw [Bool.or_eq_true] at h
  rcases h with h | h
  · exact hts w (lw_g (h1 w hw) h)
  · rw [Bool.and_eq_true] at h
    exact va_Nw.use h.2 (hN w (List.mem_filter.mpr ⟨h1 w hw, h.1⟩))

theorem at_A : vx_at0 "OfferSky" 3 "java/lang/IllegalArgumentException" ["java/lang/RuntimeException", "java/lang/Exception"] = [(Jvm.Cond.initialized "java/lang/Throwable"),
  (Jvm.Cond.superclass "java/lang/Throwable" "java/lang/Object"),
  (Jvm.Cond.instanceMethod ({ cls := "java/lang/Throwable", name := "fillInStackTrace", desc := "()Ljava/lang/Throwable;" } : Jvm.MethodName)),
  (Jvm.Cond.codeSync ({ cls := "java/lang/Throwable", name := "fillInStackTrace", desc := "()Ljava/lang/Throwable;" } : Jvm.MethodName) prog_34_method_18_code (1 : Nat) (Option.some (Jvm.ClassFile.FieldType.object "java/lang/Throwable"))),
  (Jvm.Cond.instanceMethod ({ cls := "java/lang/Throwable", name := "fillInStackTrace", desc := "(I)Ljava/lang/Throwable;" } : Jvm.MethodName)),
  (Jvm.Cond.native ({ cls := "java/lang/Throwable", name := "fillInStackTrace", desc := "(I)Ljava/lang/Throwable;" } : Jvm.MethodName)),
  (Jvm.Cond.instanceMethod ({ cls := "java/lang/Throwable", name := "<init>", desc := "()V" } : Jvm.MethodName)),
  (Jvm.Cond.code ({ cls := "java/lang/Throwable", name := "<init>", desc := "()V" } : Jvm.MethodName) prog_34_method_1_code (1 : Nat) (Option.none : Option Jvm.ClassFile.FieldType)),
  (Jvm.Cond.instanceMethod ({ cls := "java/lang/Object", name := "<init>", desc := "()V" } : Jvm.MethodName)),
  (Jvm.Cond.code ({ cls := "java/lang/Object", name := "<init>", desc := "()V" } : Jvm.MethodName) object_method_1_code (1 : Nat) (Option.none : Option Jvm.ClassFile.FieldType)),
  (Jvm.Cond.methodLink "java/lang/Throwable" (1 : Nat) ({ cls := "java/lang/Object", name := "<init>", desc := "()V" } : Jvm.MethodName)),
  (Jvm.Cond.methodLink "java/lang/Throwable" (27 : Nat) ({ cls := "java/lang/Throwable", name := "fillInStackTrace", desc := "()Ljava/lang/Throwable;" } : Jvm.MethodName)),
  (Jvm.Cond.methodLink "java/lang/Throwable" (202 : Nat) ({ cls := "java/lang/Throwable", name := "fillInStackTrace", desc := "(I)Ljava/lang/Throwable;" } : Jvm.MethodName)),
  (Jvm.Cond.fieldLink "java/lang/Throwable" (7 : Nat) "java/lang/Throwable" "cause" "Ljava/lang/Throwable;"),
  (Jvm.Cond.lays "java/lang/Throwable" "java/lang/Throwable" "cause" "Ljava/lang/Throwable;"),
  (Jvm.Cond.fieldLink "java/lang/Throwable" (17 : Nat) "java/lang/Throwable" "stackTrace" "[Ljava/lang/StackTraceElement;"),
  (Jvm.Cond.lays "java/lang/Throwable" "java/lang/Throwable" "stackTrace" "[Ljava/lang/StackTraceElement;"),
  (Jvm.Cond.fieldLink "java/lang/Throwable" (24 : Nat) "java/lang/Throwable" "suppressedExceptions" "Ljava/util/List;"),
  (Jvm.Cond.lays "java/lang/Throwable" "java/lang/Throwable" "suppressedExceptions" "Ljava/util/List;"),
  (Jvm.Cond.fieldLink "java/lang/Throwable" (13 : Nat) "java/lang/Throwable" "UNASSIGNED_STACK" "[Ljava/lang/StackTraceElement;"),
  (Jvm.Cond.fieldLink "java/lang/Throwable" (20 : Nat) "java/lang/Throwable" "SUPPRESSED_SENTINEL" "Ljava/util/List;"),
  (Jvm.Cond.lays "java/lang/Throwable" "java/lang/Throwable" "detailMessage" "Ljava/lang/String;"),
  (Jvm.Cond.instanceMethod ({ cls := "java/lang/IllegalArgumentException", name := "<init>", desc := "()V" } : Jvm.MethodName)),
  (Jvm.Cond.code ({ cls := "java/lang/IllegalArgumentException", name := "<init>", desc := "()V" } : Jvm.MethodName) prog_20_method_1_code (1 : Nat) (Option.none : Option Jvm.ClassFile.FieldType)),
  (Jvm.Cond.methodLink "java/lang/IllegalArgumentException" (1 : Nat) ({ cls := "java/lang/RuntimeException", name := "<init>", desc := "()V" } : Jvm.MethodName)),
  (Jvm.Cond.instanceMethod ({ cls := "java/lang/RuntimeException", name := "<init>", desc := "()V" } : Jvm.MethodName)),
  (Jvm.Cond.declares ({ cls := "java/lang/RuntimeException", name := "<init>", desc := "()V" } : Jvm.MethodName)),
  (Jvm.Cond.instanceMethod ({ cls := "java/lang/RuntimeException", name := "<init>", desc := "()V" } : Jvm.MethodName)),
  (Jvm.Cond.code ({ cls := "java/lang/RuntimeException", name := "<init>", desc := "()V" } : Jvm.MethodName) prog_27_method_1_code (1 : Nat) (Option.none : Option Jvm.ClassFile.FieldType)),
  (Jvm.Cond.methodLink "java/lang/RuntimeException" (1 : Nat) ({ cls := "java/lang/Exception", name := "<init>", desc := "()V" } : Jvm.MethodName)),
  (Jvm.Cond.instanceMethod ({ cls := "java/lang/Exception", name := "<init>", desc := "()V" } : Jvm.MethodName)),
  (Jvm.Cond.declares ({ cls := "java/lang/Exception", name := "<init>", desc := "()V" } : Jvm.MethodName)),
  (Jvm.Cond.instanceMethod ({ cls := "java/lang/Exception", name := "<init>", desc := "()V" } : Jvm.MethodName)),
  (Jvm.Cond.code ({ cls := "java/lang/Exception", name := "<init>", desc := "()V" } : Jvm.MethodName) prog_19_method_1_code (1 : Nat) (Option.none : Option Jvm.ClassFile.FieldType)),
  (Jvm.Cond.methodLink "java/lang/Exception" (1 : Nat) ({ cls := "java/lang/Throwable", name := "<init>", desc := "()V" } : Jvm.MethodName)),
  (Jvm.Cond.instanceMethod ({ cls := "java/lang/Throwable", name := "<init>", desc := "()V" } : Jvm.MethodName)),
  (Jvm.Cond.declares ({ cls := "java/lang/Throwable", name := "<init>", desc := "()V" } : Jvm.MethodName)),
  (Jvm.Cond.methodLink "OfferSky" (3 : Nat) ({ cls := "java/lang/IllegalArgumentException", name := "<init>", desc := "()V" } : Jvm.MethodName)),
  (Jvm.Cond.instantiable "java/lang/IllegalArgumentException" (6 : Nat)),
  (Jvm.Cond.castable "java/lang/IllegalArgumentException" "java/lang/IllegalArgumentException"),
  (Jvm.Cond.selects "java/lang/IllegalArgumentException" ({ cls := "java/lang/Throwable", name := "fillInStackTrace", desc := "(I)Ljava/lang/Throwable;" } : Jvm.MethodName) ({ cls := "java/lang/Throwable", name := "fillInStackTrace", desc := "(I)Ljava/lang/Throwable;" } : Jvm.MethodName)),
  (Jvm.Cond.selects "java/lang/IllegalArgumentException" ({ cls := "java/lang/Throwable", name := "fillInStackTrace", desc := "()Ljava/lang/Throwable;" } : Jvm.MethodName) ({ cls := "java/lang/Throwable", name := "fillInStackTrace", desc := "()Ljava/lang/Throwable;" } : Jvm.MethodName)),
  (Jvm.Cond.lays "java/lang/IllegalArgumentException" "java/lang/Throwable" "cause" "Ljava/lang/Throwable;"),
  (Jvm.Cond.lays "java/lang/IllegalArgumentException" "java/lang/Throwable" "stackTrace" "[Ljava/lang/StackTraceElement;"),
  (Jvm.Cond.lays "java/lang/IllegalArgumentException" "java/lang/Throwable" "suppressedExceptions" "Ljava/util/List;"),
  (Jvm.Cond.lays "java/lang/IllegalArgumentException" "java/lang/Throwable" "detailMessage" "Ljava/lang/String;"),
  (Jvm.Cond.fieldLink "java/lang/Throwable" (198 : Nat) "java/lang/Throwable" "backtrace" "Ljava/lang/Object;"),
  (Jvm.Cond.lays "java/lang/Throwable" "java/lang/Throwable" "backtrace" "Ljava/lang/Object;"),
  (Jvm.Cond.lays "java/lang/IllegalArgumentException" "java/lang/Throwable" "backtrace" "Ljava/lang/Object;")] := by decide +kernel

theorem atm_A : ∀ w ∈ vx_at0 "OfferSky" 3 "java/lang/IllegalArgumentException" ["java/lang/RuntimeException", "java/lang/Exception"], w ∈ lw_tbl := by
  rw [at_A]
  exact List.forall_mem_cons.mpr ⟨lw_at lw_m1 14 rfl, List.forall_mem_cons.mpr ⟨lw_at lw_m2 136 rfl, List.forall_mem_cons.mpr ⟨lw_at lw_m2 145 rfl, List.forall_mem_cons.mpr ⟨lw_at lw_m2 151 rfl, List.forall_mem_cons.mpr ⟨lw_at lw_m2 154 rfl, List.forall_mem_cons.mpr ⟨lw_at lw_m2 156 rfl, List.forall_mem_cons.mpr ⟨lw_at lw_m2 137 rfl, List.forall_mem_cons.mpr ⟨lw_at lw_m2 138 rfl, List.forall_mem_cons.mpr ⟨lw_at lw_m1 40 rfl, List.forall_mem_cons.mpr ⟨lw_at lw_m1 41 rfl, List.forall_mem_cons.mpr ⟨lw_at lw_m2 139 rfl, List.forall_mem_cons.mpr ⟨lw_at lw_m2 144 rfl, List.forall_mem_cons.mpr ⟨lw_at lw_m2 152 rfl, List.forall_mem_cons.mpr ⟨lw_at lw_m2 172 rfl, List.forall_mem_cons.mpr ⟨lw_at lw_m2 126 rfl, List.forall_mem_cons.mpr ⟨lw_at lw_m2 173 rfl, List.forall_mem_cons.mpr ⟨lw_at lw_m2 128 rfl, List.forall_mem_cons.mpr ⟨lw_at lw_m2 174 rfl, List.forall_mem_cons.mpr ⟨lw_at lw_m2 130 rfl, List.forall_mem_cons.mpr ⟨lw_at lw_m2 140 rfl, List.forall_mem_cons.mpr ⟨lw_at lw_m2 142 rfl, List.forall_mem_cons.mpr ⟨lw_at lw_m2 132 rfl, List.forall_mem_cons.mpr ⟨lw_at lw_m6 30 rfl, List.forall_mem_cons.mpr ⟨lw_at lw_m6 31 rfl, List.forall_mem_cons.mpr ⟨lw_at lw_m6 32 rfl, List.forall_mem_cons.mpr ⟨lw_at lw_m6 33 rfl, List.forall_mem_cons.mpr ⟨lw_at lw_m2 117 rfl, List.forall_mem_cons.mpr ⟨lw_at lw_m6 33 rfl, List.forall_mem_cons.mpr ⟨lw_at lw_m6 34 rfl, List.forall_mem_cons.mpr ⟨lw_at lw_m6 35 rfl, List.forall_mem_cons.mpr ⟨lw_at lw_m6 36 rfl, List.forall_mem_cons.mpr ⟨lw_at lw_m2 119 rfl, List.forall_mem_cons.mpr ⟨lw_at lw_m6 36 rfl, List.forall_mem_cons.mpr ⟨lw_at lw_m6 37 rfl, List.forall_mem_cons.mpr ⟨lw_at lw_m6 38 rfl, List.forall_mem_cons.mpr ⟨lw_at lw_m2 137 rfl, List.forall_mem_cons.mpr ⟨lw_at lw_m2 121 rfl, List.forall_mem_cons.mpr ⟨lw_at lw_m6 29 rfl, List.forall_mem_cons.mpr ⟨lw_at lw_m3 225 rfl, List.forall_mem_cons.mpr ⟨lw_at lw_m3 226 rfl, List.forall_mem_cons.mpr ⟨lw_at lw_m3 227 rfl, List.forall_mem_cons.mpr ⟨lw_at lw_m2 148 rfl, List.forall_mem_cons.mpr ⟨lw_at lw_m3 228 rfl, List.forall_mem_cons.mpr ⟨lw_at lw_m3 229 rfl, List.forall_mem_cons.mpr ⟨lw_at lw_m3 230 rfl, List.forall_mem_cons.mpr ⟨lw_at lw_m3 231 rfl, List.forall_mem_cons.mpr ⟨lw_at lw_m2 135 rfl, List.forall_mem_cons.mpr ⟨lw_at lw_m2 134 rfl, List.forall_mem_cons.mpr ⟨lw_at lw_m3 232 rfl, fun _ h => absurd h List.not_mem_nil⟩⟩⟩⟩⟩⟩⟩⟩⟩⟩⟩⟩⟩⟩⟩⟩⟩⟩⟩⟩⟩⟩⟩⟩⟩⟩⟩⟩⟩⟩⟩⟩⟩⟩⟩⟩⟩⟩⟩⟩⟩⟩⟩⟩⟩⟩⟩⟩⟩

theorem atg_A : ((vx_at0 "OfferSky" 3 "java/lang/IllegalArgumentException" ["java/lang/RuntimeException", "java/lang/Exception"]).all fun w => goodWord w || (nwb w && w.onTables)) = true := by decide +kernel

theorem ato_A : ((Cond.classLink "OfferSky" 1 "java/lang/IllegalArgumentException" :: Cond.initialized "java/lang/IllegalArgumentException" :: vx_at0 "OfferSky" 3 "java/lang/IllegalArgumentException" ["java/lang/RuntimeException", "java/lang/Exception"]).all fun w => vx_ot w) = true := by decide +kernel

theorem ct_X1_require (l : Launch) (g : GT) (hl0 : l.stackTraces = false) (b : Bool) : Ce l g yX1_require cX1_require 1 none 7 1 6 [.int (bI b)] (fun _ => True) (fun r H H1 => r = none ∧ H1 = H ∧ b = true) (fun E H H1 => E = "java/lang/IllegalArgumentException" ∧ b = false ∧ Ext H H1) := by
  refine Ce.of (by decide) (Nat.le_of_ble_eq_true rfl) ?_
  intro p e s m args below meth c X ht hP ls hl
  have hx := X.1
  have hb := X.2.1
  have hKV := X.2.2.2.2.2.2.2.1.1
  have hL : ∀ q ∈ ([] : List Loc), gLo g ≤ q.base := fun _ h => by cases h
  have hl : lv_has ls 1 [(0, .int (bI b))] := hl
  refine lv_iload_n hx hb dX1_require_0 rfl (lv_at hl 0 rfl) ?_
  refine b_ifne (tgt := 12) X dX1_require_1 (by decide) (fun c_1 => ?_) (fun c_1 => ?_)
  · exact vx_ret (r_vret X hL dX1_require_12 (by omega) (by omega) ⟨rfl, rfl, c_1⟩)
  · exact r_throw0 (cls := "java/lang/IllegalArgumentException") (names := ["java/lang/RuntimeException", "java/lang/Exception"]) hl0 X ht hL hl (by decide +kernel) (by decide +kernel) q1326 q115 (nw_all X.2.2.2.2.1 hKV.2.1 atm_A atg_A) (fun w hw => List.all_eq_true.mp ato_A w hw) dX1_require_4 dX1_require_7 dX1_require_8 dX1_require_11 (by decide) (by decide) (by omega) (by omega) (fun H1 hE => ⟨rfl, c_1, hE⟩)
theorem sb_X1_require : SB yX1_require cX1_require 1 none 1 := ⟨q1324, q99, q1325, ⟨by decide, by decide, by decide +kernel⟩⟩

theorem at_S : vx_at0 "OfferSky" 9 "java/lang/IllegalStateException" ["java/lang/RuntimeException", "java/lang/Exception"] = [(Jvm.Cond.initialized "java/lang/Throwable"),
  (Jvm.Cond.superclass "java/lang/Throwable" "java/lang/Object"),
  (Jvm.Cond.instanceMethod ({ cls := "java/lang/Throwable", name := "fillInStackTrace", desc := "()Ljava/lang/Throwable;" } : Jvm.MethodName)),
  (Jvm.Cond.codeSync ({ cls := "java/lang/Throwable", name := "fillInStackTrace", desc := "()Ljava/lang/Throwable;" } : Jvm.MethodName) prog_34_method_18_code (1 : Nat) (Option.some (Jvm.ClassFile.FieldType.object "java/lang/Throwable"))),
  (Jvm.Cond.instanceMethod ({ cls := "java/lang/Throwable", name := "fillInStackTrace", desc := "(I)Ljava/lang/Throwable;" } : Jvm.MethodName)),
  (Jvm.Cond.native ({ cls := "java/lang/Throwable", name := "fillInStackTrace", desc := "(I)Ljava/lang/Throwable;" } : Jvm.MethodName)),
  (Jvm.Cond.instanceMethod ({ cls := "java/lang/Throwable", name := "<init>", desc := "()V" } : Jvm.MethodName)),
  (Jvm.Cond.code ({ cls := "java/lang/Throwable", name := "<init>", desc := "()V" } : Jvm.MethodName) prog_34_method_1_code (1 : Nat) (Option.none : Option Jvm.ClassFile.FieldType)),
  (Jvm.Cond.instanceMethod ({ cls := "java/lang/Object", name := "<init>", desc := "()V" } : Jvm.MethodName)),
  (Jvm.Cond.code ({ cls := "java/lang/Object", name := "<init>", desc := "()V" } : Jvm.MethodName) object_method_1_code (1 : Nat) (Option.none : Option Jvm.ClassFile.FieldType)),
  (Jvm.Cond.methodLink "java/lang/Throwable" (1 : Nat) ({ cls := "java/lang/Object", name := "<init>", desc := "()V" } : Jvm.MethodName)),
  (Jvm.Cond.methodLink "java/lang/Throwable" (27 : Nat) ({ cls := "java/lang/Throwable", name := "fillInStackTrace", desc := "()Ljava/lang/Throwable;" } : Jvm.MethodName)),
  (Jvm.Cond.methodLink "java/lang/Throwable" (202 : Nat) ({ cls := "java/lang/Throwable", name := "fillInStackTrace", desc := "(I)Ljava/lang/Throwable;" } : Jvm.MethodName)),
  (Jvm.Cond.fieldLink "java/lang/Throwable" (7 : Nat) "java/lang/Throwable" "cause" "Ljava/lang/Throwable;"),
  (Jvm.Cond.lays "java/lang/Throwable" "java/lang/Throwable" "cause" "Ljava/lang/Throwable;"),
  (Jvm.Cond.fieldLink "java/lang/Throwable" (17 : Nat) "java/lang/Throwable" "stackTrace" "[Ljava/lang/StackTraceElement;"),
  (Jvm.Cond.lays "java/lang/Throwable" "java/lang/Throwable" "stackTrace" "[Ljava/lang/StackTraceElement;"),
  (Jvm.Cond.fieldLink "java/lang/Throwable" (24 : Nat) "java/lang/Throwable" "suppressedExceptions" "Ljava/util/List;"),
  (Jvm.Cond.lays "java/lang/Throwable" "java/lang/Throwable" "suppressedExceptions" "Ljava/util/List;"),
  (Jvm.Cond.fieldLink "java/lang/Throwable" (13 : Nat) "java/lang/Throwable" "UNASSIGNED_STACK" "[Ljava/lang/StackTraceElement;"),
  (Jvm.Cond.fieldLink "java/lang/Throwable" (20 : Nat) "java/lang/Throwable" "SUPPRESSED_SENTINEL" "Ljava/util/List;"),
  (Jvm.Cond.lays "java/lang/Throwable" "java/lang/Throwable" "detailMessage" "Ljava/lang/String;"),
  (Jvm.Cond.instanceMethod ({ cls := "java/lang/IllegalStateException", name := "<init>", desc := "()V" } : Jvm.MethodName)),
  (Jvm.Cond.code ({ cls := "java/lang/IllegalStateException", name := "<init>", desc := "()V" } : Jvm.MethodName) prog_21_method_1_code (1 : Nat) (Option.none : Option Jvm.ClassFile.FieldType)),
  (Jvm.Cond.methodLink "java/lang/IllegalStateException" (1 : Nat) ({ cls := "java/lang/RuntimeException", name := "<init>", desc := "()V" } : Jvm.MethodName)),
  (Jvm.Cond.instanceMethod ({ cls := "java/lang/RuntimeException", name := "<init>", desc := "()V" } : Jvm.MethodName)),
  (Jvm.Cond.declares ({ cls := "java/lang/RuntimeException", name := "<init>", desc := "()V" } : Jvm.MethodName)),
  (Jvm.Cond.instanceMethod ({ cls := "java/lang/RuntimeException", name := "<init>", desc := "()V" } : Jvm.MethodName)),
  (Jvm.Cond.code ({ cls := "java/lang/RuntimeException", name := "<init>", desc := "()V" } : Jvm.MethodName) prog_27_method_1_code (1 : Nat) (Option.none : Option Jvm.ClassFile.FieldType)),
  (Jvm.Cond.methodLink "java/lang/RuntimeException" (1 : Nat) ({ cls := "java/lang/Exception", name := "<init>", desc := "()V" } : Jvm.MethodName)),
  (Jvm.Cond.instanceMethod ({ cls := "java/lang/Exception", name := "<init>", desc := "()V" } : Jvm.MethodName)),
  (Jvm.Cond.declares ({ cls := "java/lang/Exception", name := "<init>", desc := "()V" } : Jvm.MethodName)),
  (Jvm.Cond.instanceMethod ({ cls := "java/lang/Exception", name := "<init>", desc := "()V" } : Jvm.MethodName)),
  (Jvm.Cond.code ({ cls := "java/lang/Exception", name := "<init>", desc := "()V" } : Jvm.MethodName) prog_19_method_1_code (1 : Nat) (Option.none : Option Jvm.ClassFile.FieldType)),
  (Jvm.Cond.methodLink "java/lang/Exception" (1 : Nat) ({ cls := "java/lang/Throwable", name := "<init>", desc := "()V" } : Jvm.MethodName)),
  (Jvm.Cond.instanceMethod ({ cls := "java/lang/Throwable", name := "<init>", desc := "()V" } : Jvm.MethodName)),
  (Jvm.Cond.declares ({ cls := "java/lang/Throwable", name := "<init>", desc := "()V" } : Jvm.MethodName)),
  (Jvm.Cond.methodLink "OfferSky" (9 : Nat) ({ cls := "java/lang/IllegalStateException", name := "<init>", desc := "()V" } : Jvm.MethodName)),
  (Jvm.Cond.instantiable "java/lang/IllegalStateException" (6 : Nat)),
  (Jvm.Cond.castable "java/lang/IllegalStateException" "java/lang/IllegalStateException"),
  (Jvm.Cond.selects "java/lang/IllegalStateException" ({ cls := "java/lang/Throwable", name := "fillInStackTrace", desc := "(I)Ljava/lang/Throwable;" } : Jvm.MethodName) ({ cls := "java/lang/Throwable", name := "fillInStackTrace", desc := "(I)Ljava/lang/Throwable;" } : Jvm.MethodName)),
  (Jvm.Cond.selects "java/lang/IllegalStateException" ({ cls := "java/lang/Throwable", name := "fillInStackTrace", desc := "()Ljava/lang/Throwable;" } : Jvm.MethodName) ({ cls := "java/lang/Throwable", name := "fillInStackTrace", desc := "()Ljava/lang/Throwable;" } : Jvm.MethodName)),
  (Jvm.Cond.lays "java/lang/IllegalStateException" "java/lang/Throwable" "cause" "Ljava/lang/Throwable;"),
  (Jvm.Cond.lays "java/lang/IllegalStateException" "java/lang/Throwable" "stackTrace" "[Ljava/lang/StackTraceElement;"),
  (Jvm.Cond.lays "java/lang/IllegalStateException" "java/lang/Throwable" "suppressedExceptions" "Ljava/util/List;"),
  (Jvm.Cond.lays "java/lang/IllegalStateException" "java/lang/Throwable" "detailMessage" "Ljava/lang/String;"),
  (Jvm.Cond.fieldLink "java/lang/Throwable" (198 : Nat) "java/lang/Throwable" "backtrace" "Ljava/lang/Object;"),
  (Jvm.Cond.lays "java/lang/Throwable" "java/lang/Throwable" "backtrace" "Ljava/lang/Object;"),
  (Jvm.Cond.lays "java/lang/IllegalStateException" "java/lang/Throwable" "backtrace" "Ljava/lang/Object;")] := by decide +kernel

theorem atm_S : ∀ w ∈ vx_at0 "OfferSky" 9 "java/lang/IllegalStateException" ["java/lang/RuntimeException", "java/lang/Exception"], w ∈ lw_tbl := by
  rw [at_S]
  exact List.forall_mem_cons.mpr ⟨lw_at lw_m1 14 rfl, List.forall_mem_cons.mpr ⟨lw_at lw_m2 136 rfl, List.forall_mem_cons.mpr ⟨lw_at lw_m2 145 rfl, List.forall_mem_cons.mpr ⟨lw_at lw_m2 151 rfl, List.forall_mem_cons.mpr ⟨lw_at lw_m2 154 rfl, List.forall_mem_cons.mpr ⟨lw_at lw_m2 156 rfl, List.forall_mem_cons.mpr ⟨lw_at lw_m2 137 rfl, List.forall_mem_cons.mpr ⟨lw_at lw_m2 138 rfl, List.forall_mem_cons.mpr ⟨lw_at lw_m1 40 rfl, List.forall_mem_cons.mpr ⟨lw_at lw_m1 41 rfl, List.forall_mem_cons.mpr ⟨lw_at lw_m2 139 rfl, List.forall_mem_cons.mpr ⟨lw_at lw_m2 144 rfl, List.forall_mem_cons.mpr ⟨lw_at lw_m2 152 rfl, List.forall_mem_cons.mpr ⟨lw_at lw_m2 172 rfl, List.forall_mem_cons.mpr ⟨lw_at lw_m2 126 rfl, List.forall_mem_cons.mpr ⟨lw_at lw_m2 173 rfl, List.forall_mem_cons.mpr ⟨lw_at lw_m2 128 rfl, List.forall_mem_cons.mpr ⟨lw_at lw_m2 174 rfl, List.forall_mem_cons.mpr ⟨lw_at lw_m2 130 rfl, List.forall_mem_cons.mpr ⟨lw_at lw_m2 140 rfl, List.forall_mem_cons.mpr ⟨lw_at lw_m2 142 rfl, List.forall_mem_cons.mpr ⟨lw_at lw_m2 132 rfl, List.forall_mem_cons.mpr ⟨lw_at lw_m6 48 rfl, List.forall_mem_cons.mpr ⟨lw_at lw_m6 49 rfl, List.forall_mem_cons.mpr ⟨lw_at lw_m6 50 rfl, List.forall_mem_cons.mpr ⟨lw_at lw_m6 33 rfl, List.forall_mem_cons.mpr ⟨lw_at lw_m2 117 rfl, List.forall_mem_cons.mpr ⟨lw_at lw_m6 33 rfl, List.forall_mem_cons.mpr ⟨lw_at lw_m6 34 rfl, List.forall_mem_cons.mpr ⟨lw_at lw_m6 35 rfl, List.forall_mem_cons.mpr ⟨lw_at lw_m6 36 rfl, List.forall_mem_cons.mpr ⟨lw_at lw_m2 119 rfl, List.forall_mem_cons.mpr ⟨lw_at lw_m6 36 rfl, List.forall_mem_cons.mpr ⟨lw_at lw_m6 37 rfl, List.forall_mem_cons.mpr ⟨lw_at lw_m6 38 rfl, List.forall_mem_cons.mpr ⟨lw_at lw_m2 137 rfl, List.forall_mem_cons.mpr ⟨lw_at lw_m2 121 rfl, List.forall_mem_cons.mpr ⟨lw_at lw_m6 47 rfl, List.forall_mem_cons.mpr ⟨lw_at lw_m2 115 rfl, List.forall_mem_cons.mpr ⟨lw_at lw_m2 116 rfl, List.forall_mem_cons.mpr ⟨lw_at lw_m2 123 rfl, List.forall_mem_cons.mpr ⟨lw_at lw_m2 124 rfl, List.forall_mem_cons.mpr ⟨lw_at lw_m2 125 rfl, List.forall_mem_cons.mpr ⟨lw_at lw_m2 127 rfl, List.forall_mem_cons.mpr ⟨lw_at lw_m2 129 rfl, List.forall_mem_cons.mpr ⟨lw_at lw_m2 131 rfl, List.forall_mem_cons.mpr ⟨lw_at lw_m2 135 rfl, List.forall_mem_cons.mpr ⟨lw_at lw_m2 134 rfl, List.forall_mem_cons.mpr ⟨lw_at lw_m2 133 rfl, fun _ h => absurd h List.not_mem_nil⟩⟩⟩⟩⟩⟩⟩⟩⟩⟩⟩⟩⟩⟩⟩⟩⟩⟩⟩⟩⟩⟩⟩⟩⟩⟩⟩⟩⟩⟩⟩⟩⟩⟩⟩⟩⟩⟩⟩⟩⟩⟩⟩⟩⟩⟩⟩⟩⟩

theorem atg_S : ((vx_at0 "OfferSky" 9 "java/lang/IllegalStateException" ["java/lang/RuntimeException", "java/lang/Exception"]).all fun w => goodWord w || (nwb w && w.onTables)) = true := by decide +kernel

theorem ato_S : ((Cond.classLink "OfferSky" 7 "java/lang/IllegalStateException" :: Cond.initialized "java/lang/IllegalStateException" :: vx_at0 "OfferSky" 9 "java/lang/IllegalStateException" ["java/lang/RuntimeException", "java/lang/Exception"]).all fun w => vx_ot w) = true := by decide +kernel

theorem ct_X1_requireState (l : Launch) (g : GT) (hl0 : l.stackTraces = false) (b : Bool) : Ce l g yX1_requireState cX1_requireState 1 none 7 1 6 [.int (bI b)] (fun _ => True) (fun r H H1 => r = none ∧ H1 = H ∧ b = true) (fun E H H1 => E = "java/lang/IllegalStateException" ∧ b = false ∧ Ext H H1) := by
  refine Ce.of (by decide) (Nat.le_of_ble_eq_true rfl) ?_
  intro p e s m args below meth c X ht hP ls hl
  have hx := X.1
  have hb := X.2.1
  have hKV := X.2.2.2.2.2.2.2.1.1
  have hL : ∀ q ∈ ([] : List Loc), gLo g ≤ q.base := fun _ h => by cases h
  have hl : lv_has ls 1 [(0, .int (bI b))] := hl
  refine lv_iload_n hx hb dX1_requireState_0 rfl (lv_at hl 0 rfl) ?_
  refine b_ifne (tgt := 12) X dX1_requireState_1 (by decide) (fun c_1 => ?_) (fun c_1 => ?_)
  · exact vx_ret (r_vret X hL dX1_requireState_12 (by omega) (by omega) ⟨rfl, rfl, c_1⟩)
  · exact r_throw0 (cls := "java/lang/IllegalStateException") (names := ["java/lang/RuntimeException", "java/lang/Exception"]) hl0 X ht hL hl (by decide +kernel) (by decide +kernel) q1344 q116 (nw_all X.2.2.2.2.1 hKV.2.1 atm_S atg_S) (fun w hw => List.all_eq_true.mp ato_S w hw) dX1_requireState_4 dX1_requireState_7 dX1_requireState_8 dX1_requireState_11 (by decide) (by decide) (by omega) (by omega) (fun H1 hE => ⟨rfl, c_1, hE⟩)
theorem sb_X1_requireState : SB yX1_requireState cX1_requireState 1 none 1 := ⟨q1342, q99, q1343, ⟨by decide, by decide, by decide +kernel⟩⟩

theorem at_B : vx_at0 "OfferSky" 12 "java/lang/IndexOutOfBoundsException" ["java/lang/RuntimeException", "java/lang/Exception"] = [(Jvm.Cond.initialized "java/lang/Throwable"),
  (Jvm.Cond.superclass "java/lang/Throwable" "java/lang/Object"),
  (Jvm.Cond.instanceMethod ({ cls := "java/lang/Throwable", name := "fillInStackTrace", desc := "()Ljava/lang/Throwable;" } : Jvm.MethodName)),
  (Jvm.Cond.codeSync ({ cls := "java/lang/Throwable", name := "fillInStackTrace", desc := "()Ljava/lang/Throwable;" } : Jvm.MethodName) prog_34_method_18_code (1 : Nat) (Option.some (Jvm.ClassFile.FieldType.object "java/lang/Throwable"))),
  (Jvm.Cond.instanceMethod ({ cls := "java/lang/Throwable", name := "fillInStackTrace", desc := "(I)Ljava/lang/Throwable;" } : Jvm.MethodName)),
  (Jvm.Cond.native ({ cls := "java/lang/Throwable", name := "fillInStackTrace", desc := "(I)Ljava/lang/Throwable;" } : Jvm.MethodName)),
  (Jvm.Cond.instanceMethod ({ cls := "java/lang/Throwable", name := "<init>", desc := "()V" } : Jvm.MethodName)),
  (Jvm.Cond.code ({ cls := "java/lang/Throwable", name := "<init>", desc := "()V" } : Jvm.MethodName) prog_34_method_1_code (1 : Nat) (Option.none : Option Jvm.ClassFile.FieldType)),
  (Jvm.Cond.instanceMethod ({ cls := "java/lang/Object", name := "<init>", desc := "()V" } : Jvm.MethodName)),
  (Jvm.Cond.code ({ cls := "java/lang/Object", name := "<init>", desc := "()V" } : Jvm.MethodName) object_method_1_code (1 : Nat) (Option.none : Option Jvm.ClassFile.FieldType)),
  (Jvm.Cond.methodLink "java/lang/Throwable" (1 : Nat) ({ cls := "java/lang/Object", name := "<init>", desc := "()V" } : Jvm.MethodName)),
  (Jvm.Cond.methodLink "java/lang/Throwable" (27 : Nat) ({ cls := "java/lang/Throwable", name := "fillInStackTrace", desc := "()Ljava/lang/Throwable;" } : Jvm.MethodName)),
  (Jvm.Cond.methodLink "java/lang/Throwable" (202 : Nat) ({ cls := "java/lang/Throwable", name := "fillInStackTrace", desc := "(I)Ljava/lang/Throwable;" } : Jvm.MethodName)),
  (Jvm.Cond.fieldLink "java/lang/Throwable" (7 : Nat) "java/lang/Throwable" "cause" "Ljava/lang/Throwable;"),
  (Jvm.Cond.lays "java/lang/Throwable" "java/lang/Throwable" "cause" "Ljava/lang/Throwable;"),
  (Jvm.Cond.fieldLink "java/lang/Throwable" (17 : Nat) "java/lang/Throwable" "stackTrace" "[Ljava/lang/StackTraceElement;"),
  (Jvm.Cond.lays "java/lang/Throwable" "java/lang/Throwable" "stackTrace" "[Ljava/lang/StackTraceElement;"),
  (Jvm.Cond.fieldLink "java/lang/Throwable" (24 : Nat) "java/lang/Throwable" "suppressedExceptions" "Ljava/util/List;"),
  (Jvm.Cond.lays "java/lang/Throwable" "java/lang/Throwable" "suppressedExceptions" "Ljava/util/List;"),
  (Jvm.Cond.fieldLink "java/lang/Throwable" (13 : Nat) "java/lang/Throwable" "UNASSIGNED_STACK" "[Ljava/lang/StackTraceElement;"),
  (Jvm.Cond.fieldLink "java/lang/Throwable" (20 : Nat) "java/lang/Throwable" "SUPPRESSED_SENTINEL" "Ljava/util/List;"),
  (Jvm.Cond.lays "java/lang/Throwable" "java/lang/Throwable" "detailMessage" "Ljava/lang/String;"),
  (Jvm.Cond.instanceMethod ({ cls := "java/lang/IndexOutOfBoundsException", name := "<init>", desc := "()V" } : Jvm.MethodName)),
  (Jvm.Cond.code ({ cls := "java/lang/IndexOutOfBoundsException", name := "<init>", desc := "()V" } : Jvm.MethodName) prog_22_method_1_code (1 : Nat) (Option.none : Option Jvm.ClassFile.FieldType)),
  (Jvm.Cond.methodLink "java/lang/IndexOutOfBoundsException" (1 : Nat) ({ cls := "java/lang/RuntimeException", name := "<init>", desc := "()V" } : Jvm.MethodName)),
  (Jvm.Cond.instanceMethod ({ cls := "java/lang/RuntimeException", name := "<init>", desc := "()V" } : Jvm.MethodName)),
  (Jvm.Cond.declares ({ cls := "java/lang/RuntimeException", name := "<init>", desc := "()V" } : Jvm.MethodName)),
  (Jvm.Cond.instanceMethod ({ cls := "java/lang/RuntimeException", name := "<init>", desc := "()V" } : Jvm.MethodName)),
  (Jvm.Cond.code ({ cls := "java/lang/RuntimeException", name := "<init>", desc := "()V" } : Jvm.MethodName) prog_27_method_1_code (1 : Nat) (Option.none : Option Jvm.ClassFile.FieldType)),
  (Jvm.Cond.methodLink "java/lang/RuntimeException" (1 : Nat) ({ cls := "java/lang/Exception", name := "<init>", desc := "()V" } : Jvm.MethodName)),
  (Jvm.Cond.instanceMethod ({ cls := "java/lang/Exception", name := "<init>", desc := "()V" } : Jvm.MethodName)),
  (Jvm.Cond.declares ({ cls := "java/lang/Exception", name := "<init>", desc := "()V" } : Jvm.MethodName)),
  (Jvm.Cond.instanceMethod ({ cls := "java/lang/Exception", name := "<init>", desc := "()V" } : Jvm.MethodName)),
  (Jvm.Cond.code ({ cls := "java/lang/Exception", name := "<init>", desc := "()V" } : Jvm.MethodName) prog_19_method_1_code (1 : Nat) (Option.none : Option Jvm.ClassFile.FieldType)),
  (Jvm.Cond.methodLink "java/lang/Exception" (1 : Nat) ({ cls := "java/lang/Throwable", name := "<init>", desc := "()V" } : Jvm.MethodName)),
  (Jvm.Cond.instanceMethod ({ cls := "java/lang/Throwable", name := "<init>", desc := "()V" } : Jvm.MethodName)),
  (Jvm.Cond.declares ({ cls := "java/lang/Throwable", name := "<init>", desc := "()V" } : Jvm.MethodName)),
  (Jvm.Cond.methodLink "OfferSky" (12 : Nat) ({ cls := "java/lang/IndexOutOfBoundsException", name := "<init>", desc := "()V" } : Jvm.MethodName)),
  (Jvm.Cond.instantiable "java/lang/IndexOutOfBoundsException" (6 : Nat)),
  (Jvm.Cond.castable "java/lang/IndexOutOfBoundsException" "java/lang/IndexOutOfBoundsException"),
  (Jvm.Cond.selects "java/lang/IndexOutOfBoundsException" ({ cls := "java/lang/Throwable", name := "fillInStackTrace", desc := "(I)Ljava/lang/Throwable;" } : Jvm.MethodName) ({ cls := "java/lang/Throwable", name := "fillInStackTrace", desc := "(I)Ljava/lang/Throwable;" } : Jvm.MethodName)),
  (Jvm.Cond.selects "java/lang/IndexOutOfBoundsException" ({ cls := "java/lang/Throwable", name := "fillInStackTrace", desc := "()Ljava/lang/Throwable;" } : Jvm.MethodName) ({ cls := "java/lang/Throwable", name := "fillInStackTrace", desc := "()Ljava/lang/Throwable;" } : Jvm.MethodName)),
  (Jvm.Cond.lays "java/lang/IndexOutOfBoundsException" "java/lang/Throwable" "cause" "Ljava/lang/Throwable;"),
  (Jvm.Cond.lays "java/lang/IndexOutOfBoundsException" "java/lang/Throwable" "stackTrace" "[Ljava/lang/StackTraceElement;"),
  (Jvm.Cond.lays "java/lang/IndexOutOfBoundsException" "java/lang/Throwable" "suppressedExceptions" "Ljava/util/List;"),
  (Jvm.Cond.lays "java/lang/IndexOutOfBoundsException" "java/lang/Throwable" "detailMessage" "Ljava/lang/String;"),
  (Jvm.Cond.fieldLink "java/lang/Throwable" (198 : Nat) "java/lang/Throwable" "backtrace" "Ljava/lang/Object;"),
  (Jvm.Cond.lays "java/lang/Throwable" "java/lang/Throwable" "backtrace" "Ljava/lang/Object;"),
  (Jvm.Cond.lays "java/lang/IndexOutOfBoundsException" "java/lang/Throwable" "backtrace" "Ljava/lang/Object;")] := by decide +kernel

theorem atm_B : ∀ w ∈ vx_at0 "OfferSky" 12 "java/lang/IndexOutOfBoundsException" ["java/lang/RuntimeException", "java/lang/Exception"], w ∈ lw_tbl := by
  rw [at_B]
  exact List.forall_mem_cons.mpr ⟨lw_at lw_m1 14 rfl, List.forall_mem_cons.mpr ⟨lw_at lw_m2 136 rfl, List.forall_mem_cons.mpr ⟨lw_at lw_m2 145 rfl, List.forall_mem_cons.mpr ⟨lw_at lw_m2 151 rfl, List.forall_mem_cons.mpr ⟨lw_at lw_m2 154 rfl, List.forall_mem_cons.mpr ⟨lw_at lw_m2 156 rfl, List.forall_mem_cons.mpr ⟨lw_at lw_m2 137 rfl, List.forall_mem_cons.mpr ⟨lw_at lw_m2 138 rfl, List.forall_mem_cons.mpr ⟨lw_at lw_m1 40 rfl, List.forall_mem_cons.mpr ⟨lw_at lw_m1 41 rfl, List.forall_mem_cons.mpr ⟨lw_at lw_m2 139 rfl, List.forall_mem_cons.mpr ⟨lw_at lw_m2 144 rfl, List.forall_mem_cons.mpr ⟨lw_at lw_m2 152 rfl, List.forall_mem_cons.mpr ⟨lw_at lw_m2 172 rfl, List.forall_mem_cons.mpr ⟨lw_at lw_m2 126 rfl, List.forall_mem_cons.mpr ⟨lw_at lw_m2 173 rfl, List.forall_mem_cons.mpr ⟨lw_at lw_m2 128 rfl, List.forall_mem_cons.mpr ⟨lw_at lw_m2 174 rfl, List.forall_mem_cons.mpr ⟨lw_at lw_m2 130 rfl, List.forall_mem_cons.mpr ⟨lw_at lw_m2 140 rfl, List.forall_mem_cons.mpr ⟨lw_at lw_m2 142 rfl, List.forall_mem_cons.mpr ⟨lw_at lw_m2 132 rfl, List.forall_mem_cons.mpr ⟨lw_at lw_m6 87 rfl, List.forall_mem_cons.mpr ⟨lw_at lw_m6 88 rfl, List.forall_mem_cons.mpr ⟨lw_at lw_m6 89 rfl, List.forall_mem_cons.mpr ⟨lw_at lw_m6 33 rfl, List.forall_mem_cons.mpr ⟨lw_at lw_m2 117 rfl, List.forall_mem_cons.mpr ⟨lw_at lw_m6 33 rfl, List.forall_mem_cons.mpr ⟨lw_at lw_m6 34 rfl, List.forall_mem_cons.mpr ⟨lw_at lw_m6 35 rfl, List.forall_mem_cons.mpr ⟨lw_at lw_m6 36 rfl, List.forall_mem_cons.mpr ⟨lw_at lw_m2 119 rfl, List.forall_mem_cons.mpr ⟨lw_at lw_m6 36 rfl, List.forall_mem_cons.mpr ⟨lw_at lw_m6 37 rfl, List.forall_mem_cons.mpr ⟨lw_at lw_m6 38 rfl, List.forall_mem_cons.mpr ⟨lw_at lw_m2 137 rfl, List.forall_mem_cons.mpr ⟨lw_at lw_m2 121 rfl, List.forall_mem_cons.mpr ⟨lw_at lw_m6 86 rfl, List.forall_mem_cons.mpr ⟨lw_at lw_m4 224 rfl, List.forall_mem_cons.mpr ⟨lw_at lw_m4 225 rfl, List.forall_mem_cons.mpr ⟨lw_at lw_m4 226 rfl, List.forall_mem_cons.mpr ⟨lw_at lw_m2 149 rfl, List.forall_mem_cons.mpr ⟨lw_at lw_m4 227 rfl, List.forall_mem_cons.mpr ⟨lw_at lw_m4 228 rfl, List.forall_mem_cons.mpr ⟨lw_at lw_m4 229 rfl, List.forall_mem_cons.mpr ⟨lw_at lw_m4 230 rfl, List.forall_mem_cons.mpr ⟨lw_at lw_m2 135 rfl, List.forall_mem_cons.mpr ⟨lw_at lw_m2 134 rfl, List.forall_mem_cons.mpr ⟨lw_at lw_m4 231 rfl, fun _ h => absurd h List.not_mem_nil⟩⟩⟩⟩⟩⟩⟩⟩⟩⟩⟩⟩⟩⟩⟩⟩⟩⟩⟩⟩⟩⟩⟩⟩⟩⟩⟩⟩⟩⟩⟩⟩⟩⟩⟩⟩⟩⟩⟩⟩⟩⟩⟩⟩⟩⟩⟩⟩⟩

theorem atg_B : ((vx_at0 "OfferSky" 12 "java/lang/IndexOutOfBoundsException" ["java/lang/RuntimeException", "java/lang/Exception"]).all fun w => goodWord w || (nwb w && w.onTables)) = true := by decide +kernel

theorem ato_B : ((Cond.classLink "OfferSky" 10 "java/lang/IndexOutOfBoundsException" :: Cond.initialized "java/lang/IndexOutOfBoundsException" :: vx_at0 "OfferSky" 12 "java/lang/IndexOutOfBoundsException" ["java/lang/RuntimeException", "java/lang/Exception"]).all fun w => vx_ot w) = true := by decide +kernel

theorem ct_X1_requireIndex (l : Launch) (g : GT) (hl0 : l.stackTraces = false) (b : Bool) : Ce l g yX1_requireIndex cX1_requireIndex 1 none 7 1 6 [.int (bI b)] (fun _ => True) (fun r H H1 => r = none ∧ H1 = H ∧ b = true) (fun E H H1 => E = "java/lang/IndexOutOfBoundsException" ∧ b = false ∧ Ext H H1) := by
  refine Ce.of (by decide) (Nat.le_of_ble_eq_true rfl) ?_
  intro p e s m args below meth c X ht hP ls hl
  have hx := X.1
  have hb := X.2.1
  have hKV := X.2.2.2.2.2.2.2.1.1
  have hL : ∀ q ∈ ([] : List Loc), gLo g ≤ q.base := fun _ h => by cases h
  have hl : lv_has ls 1 [(0, .int (bI b))] := hl
  refine lv_iload_n hx hb dX1_requireIndex_0 rfl (lv_at hl 0 rfl) ?_
  refine b_ifne (tgt := 12) X dX1_requireIndex_1 (by decide) (fun c_1 => ?_) (fun c_1 => ?_)
  · exact vx_ret (r_vret X hL dX1_requireIndex_12 (by omega) (by omega) ⟨rfl, rfl, c_1⟩)
  · exact r_throw0 (cls := "java/lang/IndexOutOfBoundsException") (names := ["java/lang/RuntimeException", "java/lang/Exception"]) hl0 X ht hL hl (by decide +kernel) (by decide +kernel) q1383 q124 (nw_all X.2.2.2.2.1 hKV.2.1 atm_B atg_B) (fun w hw => List.all_eq_true.mp ato_B w hw) dX1_requireIndex_4 dX1_requireIndex_7 dX1_requireIndex_8 dX1_requireIndex_11 (by decide) (by decide) (by omega) (by omega) (fun H1 hE => ⟨rfl, c_1, hE⟩)
theorem sb_X1_requireIndex : SB yX1_requireIndex cX1_requireIndex 1 none 1 := ⟨q1381, q99, q1382, ⟨by decide, by decide, by decide +kernel⟩⟩
