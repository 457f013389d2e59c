/-! LAMBDAS: the site's object, the made class's forwarder -/
section LFACTS
/-- the forwarder: the made class's second method -/
def FwB (U : State) (cK : ClassId) (fwd : ByteArray) (nL : Nat) : Prop := ∃ (methk : Method) (ck : Code), U.vm.method? ⟨cK, 1⟩ = some methk ∧ methk.code = some ck ∧ methk.locks = false ∧ U.plainMethod ⟨cK, 1⟩ ∧ ck.maxLocals = nL ∧ ck.code = fwd ∧ methk.sig.returnType = some .boolean ∧ methk.accessFlags = 0x0001
def FwF (U : State) (cK fi sl : Nat) : Prop := ∃ fld : Field, U.vm.fieldReady cK fi cK fld ∧ fld.isStatic = false ∧ fld.slot = sl
def FwC (U : State) (cK ci : Nat) (nm : String) : Prop := ∃ (cT : ClassId) (kt : Class), U.vm.classReady cK ci cT ∧ U.vm.findClass nm = some cT ∧ U.vm.classes[cT]? = some kt
def FwS (e : Env) (U : State) (cK mi : Nat) (y : MethodName) (n : Nat) : Prop :=
  ∃ (t : MethodId) (kt : Class) (metht : Method), plainRef U e cK mi ∧ U.vm.methodReady cK mi t ∧ U.vm.classes[t.cls]? = some kt ∧ U.vm.method? t = some metht ∧ signaturePolymorphic kt metht = false ∧ metht.isStatic = true ∧ kt.init = .initialized ∧ metht.sig.parameters.length = n ∧ U.methodNamed? y = some t
def FwV (U : State) (cK mi : Nat) (y : MethodName) (n : Nat) : Prop :=
  ∃ (t : MethodId) (kt : Class) (metht : Method), namesAClass U cK mi ∧ U.vm.methodReady cK mi t ∧ U.vm.classes[t.cls]? = some kt ∧ U.vm.method? t = some metht ∧ signaturePolymorphic kt metht = false ∧ metht.isStatic = false ∧ metht.isAbstract = false ∧ kt.isInterface = false ∧ metht.sig.parameters.length = n ∧ U.methodNamed? y = some t ∧ (∃ c0, U.vm.findClass y.cls = some c0 ∧ selectMethod {} U.vm c0 t = .method t)
theorem FwS.of {e : Env} {U : State} {cK mi ci nt n : Nat} {y : MethodName} {kK tk : Class} {file : ClassFile} {toy : ClassId} {t : MethodId} {bytes : ByteArray} {maxL : Nat} {ret : Option FieldType} {sig : MethodDescriptor}
    (hkK : U.vm.classes[cK]? = some kK) (hfile : kK.cf = some file) (hM : file.constantPool[mi]? = some (.methodref ci nt)) (hnt : file.constantPool.nameAndType? nt = some (y.name, y.desc))
    (hready : U.vm.methodReady cK mi t) (hclsR : U.vm.classReady cK ci toy) (htoy : U.vm.findClass y.cls = some toy) (htk : U.vm.classes[toy]? = some tk)
    (hlook : ((methodIn toy y.name y.desc tk.isInterface none).ask { classPath := fun _ => none } U.vm).1 = .ok t)
    (hy : y.cls ≠ "java/lang/invoke/MethodHandle" ∧ y.cls ≠ "java/lang/invoke/VarHandle") {A : Array Value}
    (hcode : (Cond.code y bytes maxL ret).before A U = true) (hst : (Cond.static y).before A U = true) (hini : (Cond.initialized y.cls).before A U = true)
    (hsig : parseMethodDescriptor y.desc = some sig) (hn : sig.parameters.length = n) : FwS e U cK mi y n := by
  cases hnB : U.methodNamed? y with
  | none => simp [Cond.before, Cond.holds, Cond.value, hnB] at hcode
  | some mB =>
  obtain ⟨methB, cB, hmB, -, -, -, -, -, -, hsigB⟩ := Cond.code_spec hnB hcode
  have hstaticB : methB.isStatic = true := Cond.static_spec hnB hmB hst
  have hfT : U.vm.findClass y.cls = some mB.cls := findClass_of_methodNamed hnB
  cases htoy.symm.trans hfT
  have hinitK : tk.init = .initialized := Cond.initialized_spec hfT htk hini
  obtain ⟨kT', hkT', hnameT⟩ := className_of_methodNamed hnB
  cases htk.symm.trans hkT'
  have htB : t = mB := by
    have h1 : U.methodFound? y.cls y.name y.desc = some mB := State.methodFound?_of_named hnB hy
    simp only [State.methodFound?, hfT, htk, Option.bind_eq_bind, Option.bind_some] at h1
    rw [hlook] at h1
    exact Option.some.inj h1
  subst htB
  have hsp : ∀ z : Method, signaturePolymorphic tk z = false := fun z => by simp [signaturePolymorphic, hnameT, hy.1, hy.2]
  obtain ⟨b, hmem⟩ := memberRef_ask' (e := e) (vm := U.vm) (d := cK) (index := mi) hkK hfile (Or.inl hM) hnt
  exact ⟨t, tk, methB, ⟨ci, _, _, b, t.cls, tk, hmem, hclsR, htk, by simp [hsp]⟩, hready, htk, hmB, hsp _, hstaticB, hinitK, by rw [← Option.some.inj (hsig.symm.trans hsigB)]; exact hn, hnB⟩
theorem FwV.of {U : State} {cK mi ci nt n : Nat} {y : MethodName} {kK tk : Class} {file : ClassFile} {cB : ClassId} {t : MethodId} {bytes : ByteArray} {maxL : Nat} {ret : Option FieldType} {sig : MethodDescriptor}
    (hkK : U.vm.classes[cK]? = some kK) (hfile : kK.cf = some file) (hM : file.constantPool[mi]? = some (.methodref ci nt))
    (hready : U.vm.methodReady cK mi t) (hclsR : U.vm.classReady cK ci cB) (hcB : U.vm.findClass y.cls = some cB) (htk : U.vm.classes[cB]? = some tk) (hitf : tk.isInterface = false)
    (hlook : ((methodIn cB y.name y.desc tk.isInterface none).ask { classPath := fun _ => none } U.vm).1 = .ok t)
    (hy : y.cls ≠ "java/lang/invoke/MethodHandle" ∧ y.cls ≠ "java/lang/invoke/VarHandle") {A : Array Value}
    (hcode : (Cond.code y bytes maxL ret).before A U = true) (hinst : (Cond.instanceMethod y).before A U = true) (hsel : (Cond.selects y.cls y y).before A U = true)
    (hsig : parseMethodDescriptor y.desc = some sig) (hn : sig.parameters.length = n) : FwV U cK mi y n := by
  obtain ⟨mk, methM, hnamed, hmethM, hst, hab⟩ := Cond.instanceMethod_spec hinst
  obtain ⟨methB, cB', hmB, -, -, -, -, -, -, hsigB⟩ := Cond.code_spec hnamed hcode
  cases hmB.symm.trans hmethM
  obtain ⟨c2, r2, m2, q1, q2, q3, q4, kP, hkP, hkPi⟩ := Cond.selects_spec hsel
  cases hcB.symm.trans q1
  cases (State.methodFound?_of_named hnamed hy).symm.trans q2
  cases hnamed.symm.trans q3
  have htB : t = mk := by
    have h1 : U.methodFound? y.cls y.name y.desc = some mk := State.methodFound?_of_named hnamed hy
    simp only [State.methodFound?, hcB, htk, Option.bind_eq_bind, Option.bind_some] at h1
    rw [hlook] at h1
    exact Option.some.inj h1
  subst htB
  obtain ⟨kT', hkT', hnameT⟩ := className_of_methodNamed hnamed
  have hsp : signaturePolymorphic kT' methM = false := by simp [signaturePolymorphic, hnameT, hy.1, hy.2]
  have hcls : t.cls = cB := Option.some.inj ((findClass_of_methodNamed hnamed).symm.trans hcB)
  have hit : kT'.isInterface = false := by
    have : kT' = tk := by rw [hcls] at hkT'; exact Option.some.inj (hkT'.symm.trans htk)
    rw [this]; exact hitf
  exact ⟨t, kT', methM, ⟨kK, file, ci, nt, cB, tk, hkK, hfile, hM, hclsR, htk, hitf⟩, hready, hkT', hmB, hsp, hst, hab, hit, by rw [← Option.some.inj (hsig.symm.trans hsigB)]; exact hn, hnamed, ⟨cB, hcB, q4⟩⟩
end LFACTS
section LROWS
variable {p : Program} {l : Launch} {e : Env} {R : Room} {s : State} {m : MethodId} {args : Array Value} {below : List Frame} {meth : Method} {c : Code} {H : Heap} {locs : List Loc} {cells slots : Nat} {Q : State → Prop}
variable {cc : ByteArray} {pc : Nat} {ls : Array Slot} {rest : List Value} {a : Nat} {g : GT}
theorem w_getR (hx : p.tables.exec = Jvm.exec) (hb : c.code = cc) {fi sl : Nat} (hF : ∀ U : State, s.WarmedH U.vm → FwF U m.cls fi sl) {cell : Cell} {v : Value} (hcell : H[a]? = some cell) (hkn : cell.vm = .none) (hv : cell.slots[sl]? = some v) (hdg : decode cc pc = .ok (.getfield fi, 3))
    (kk : W p l e R s m args below meth c H locs cells slots Q (F0 m (pc + 3) ls (v :: rest))) : W p l e R s m args below meth c H locs cells slots Q (F0 m pc ls (.ref a :: rest)) := by
  intro T hT X
  obtain ⟨t, a1, b1⟩ := kk T hT X
  obtain ⟨fld, h1, h2, h3⟩ := hF T X.warmed
  refine ⟨t, ?_, b1⟩
  jvm_step X.here [hx, hb, hdg, Op.getfield.wp_ready (e := e) (s := T) (c := m.cls) (field := fld) (a := a) (rest := rest) (cell := cell) (v := v) (f := F0 m pc ls (.ref a :: rest)) X.here.top h1 h2 rfl (by rw [hT]; exact hcell) (by rw [hkn]; exact fun h => by cases h) (by rw [h3]; exact hv)]
  exact a1
theorem w_castR (hx : p.tables.exec = Jvm.exec) (hb : c.code = cc) {ci : Nat} {nm : String} (hC : ∀ U : State, s.WarmedH U.vm → FwC U m.cls ci nm) {cell : Cell} (hcell : H[a]? = some cell) (hst : cell.vm.isStatics = false) (hasg : ∀ U : State, s.WarmedH U.vm → (∃ ks, U.vm.classes[cell.cls]? = some ks) ∧ ∀ cT, U.vm.findClass nm = some cT → U.vm.assignable cell.cls cT = true) (hdg : decode cc pc = .ok (.checkcast ci, 3))
    (kk : W p l e R s m args below meth c H locs cells slots Q (F0 m (pc + 3) ls (.ref a :: rest))) : W p l e R s m args below meth c H locs cells slots Q (F0 m pc ls (.ref a :: rest)) := by
  intro T hT X
  obtain ⟨t, a1, b1⟩ := kk T hT X
  obtain ⟨cT, kt, h1, h2, h3⟩ := hC T X.warmed
  obtain ⟨⟨ks, h4⟩, h5⟩ := hasg T X.warmed
  refine ⟨t, ?_, b1⟩
  jvm_step X.here [hx, hb, hdg, Op.checkcast.wp_ready (e := e) (s := T) (c := cT) (x := .ref a) (rest := rest) (f := F0 m pc ls (.ref a :: rest)) X.here.top h1 rfl]
  exact ⟨cell, by rw [hT]; exact hcell, (fun k h => by rw [h] at hst; cases hst), ks, h4, kt, h3, by rw [if_pos (h5 _ h2)]; exact a1⟩
/-- the target's contract, called from the forwarder -/
theorem w_back {y' : MethodName} {cc' : ByteArray} {maxL d' mc' ms' d mc ms : Nat} {As : List Value} {P : Heap → Prop} {Po : Option Value → Heap → Heap → Prop} (hM : Ct l g y' cc' maxL (some .boolean) d' mc' ms' As P Po)
    (hws : ∀ w ∈ lw_all, w.before args s = true) (hcode : Cond.code y' cc' maxL (some .boolean) ∈ lw_all) (hini : Cond.initialized y'.cls ∈ lw_all) (hR : d' + 1 ≤ d ∧ (maxL + 11) ≤ 56) : Back l (rmL d mc ms) p e below s args y' 3 0 (PreOf (rmL d mc ms) mc' ms' (Pcg g As P)) (PostOf (Qcg Po) mc' ms' (fre g)) := by
  refine back_of (bytes := cc') (maxL := maxL) (ret := some .boolean) hM Pcg.blind rfl rfl (by show d' + 1 ≤ d; exact hR.1) (by show 0 + (maxL + 11) + (4096 + 64 * d') ≤ 4096 + 64 * d; omega) (fun w hw => pay_in (big := lw_all) hws (lw_meth hcode) w hw) List.mem_cons_self (fun a' U hW => word_at hW (lw_self _ hini).2 (hws _ hini))
theorem w_virtR {y' : MethodName} {cc' : ByteArray} {maxL d' mc' ms' d mc ms n mi b : Nat} {As : List Value} {P : Heap → Prop} {Po : Option Value → Heap → Heap → Prop} {st : List Value} (hM : Ct l g y' cc' maxL (some .boolean) d' mc' ms' (.ref b :: As) P Po)
    (hx : p.tables.exec = Jvm.exec) (hb : c.code = cc) (hsz : ls.size = c.maxLocals) (hL : ∀ q ∈ locs, gLo g ≤ q.base) (hws : ∀ w ∈ lw_all, w.before args s = true) (hK : KV g s ∧ Base g s.heap) (hV : VB y' cc' maxL (some .boolean) n) (hF : ∀ U : State, s.WarmedH U.vm → FwV U m.cls mi y' n)
    (hrec : ∃ cellB : Cell, H[b]? = some cellB ∧ cellB.vm.isStatics = false ∧ s.vm.findClass y'.cls = some cellB.cls) (hn : As.length = n) (hst : st = As.reverse ++ [.ref b]) (hR : d' + 1 ≤ d ∧ (maxL + 11) ≤ 56) (hc : cells + mc' ≤ mc) (hs : slots + ms' ≤ ms) (hP : P H) (hdg : decode cc pc = .ok (.invokevirtual mi, 3))
    (kk : ∀ (r : Option Value) (H1 : Heap) (locs1 : List Loc), (∀ q ∈ locs1, gLo g ≤ q.base) → Po r H H1 → W p l e (rmL d mc ms) s m args below meth c H1 locs1 (cells + mc') (slots + ms') Q (F0 m (pc + 3) ls r.toList)) : W p l e (rmL d mc ms) s m args below meth c H locs cells slots Q (F0 m pc ls st) := by
  intro T hT X
  obtain ⟨t, kt, metht, h1, h2, h3, h4, h5, h6, h7, h8, h9, h10, c0, h11, h12⟩ := hF T X.warmed
  obtain ⟨cellB, g1, g2, g3⟩ := hrec
  have hcc : cellB.cls = c0 := by
    have e1 : T.vm.findClass y'.cls = s.vm.findClass y'.cls := X.warmed.alike.findClass _ _
    rw [e1, g3] at h11
    exact Option.some.inj h11
  have hBH : Base g T.heap := base_at X hL hK.2
  obtain ⟨v, B, X', hpost, hsteps⟩ := (w_back (p := p) (e := e) (below := below) (mc := mc) (ms := ms) hM hws hV.2.2.2.1 hV.2.2.1 hR) m meth c ⟨T, locs, cells, slots⟩ { F0 m pc ls st with stack := [] } (.invokevirtual mi) t (.ref b :: As).toArray X rfl hsz (by rw [hb]; exact hdg) (by show 2 * 0 + 0 ≤ 0; decide) h10 ⟨hc, hs, rfl, ⟨hK.1.warm X.warmed, hBH⟩, by rw [hT]; exact hP⟩
  obtain ⟨gj, mk, tt, L, e1, e2, ⟨r, hr, hp⟩, e4, hfr, e6, e7⟩ := hpost
  cases hr
  dsimp only [Pt.U, Pt.locs, Pt.cells, Pt.slots] at X' e1 e2 e4 e6 e7 hsteps hp
  have hp : Po v H B.1.heap := by
    have hp' : Po v T.heap tt.heap := hp
    rw [hT] at hp'
    rw [e1]; exact hp'
  rw [e4, e6, e7] at X'
  obtain ⟨t2, a1, b1⟩ := kk v B.1.heap (locs ++ L) (fun q hq => (List.mem_append.mp hq).elim (hL q) (hfr q)) hp B.1 rfl X'
  refine ⟨t2, Steps.trans ?_ (hsteps.trans ?_), b1⟩
  · jvm_step X.here [hx, hb, hdg, Op.invokevirtual.wp_ready (e := e) (s := T) (r := t) (m := t) (k := kt) (mk := kt) (rmeth := metht) (meth := metht) (a := b) (args := As) (rest := []) (cell := cellB) (f := F0 m pc ls st) X.here.top h1 h2 h3 h4 h5 h6 (hn.trans h9.symm) hst (by rw [hT]; exact g1) (fun q h => by rw [h] at g2; cases g2) (by rw [Launch.admits_selectMethod X.admits, hcc]; exact h12) h4 h7 h3 h8]
    intro acts
    rw [doInvoke_state]
    exact Steps.refl _
  · simpa using a1
theorem w_statR {y' : MethodName} {cc' : ByteArray} {maxL d' mc' ms' d mc ms n mi : Nat} {As : List Value} {P : Heap → Prop} {Po : Option Value → Heap → Heap → Prop} {st : List Value} (hM : Ct l g y' cc' maxL (some .boolean) d' mc' ms' As P Po)
    (hx : p.tables.exec = Jvm.exec) (hb : c.code = cc) (hsz : ls.size = c.maxLocals) (hL : ∀ q ∈ locs, gLo g ≤ q.base) (hws : ∀ w ∈ lw_all, w.before args s = true) (hK : KV g s ∧ Base g s.heap) (hV : SB y' cc' maxL (some .boolean) n) (hF : ∀ U : State, s.WarmedH U.vm → FwS e U m.cls mi y' n)
    (hn : As.length = n) (hst : st = As.reverse ++ []) (hR : d' + 1 ≤ d ∧ (maxL + 11) ≤ 56) (hc : cells + mc' ≤ mc) (hs : slots + ms' ≤ ms) (hP : P H) (hdg : decode cc pc = .ok (.invokestatic mi, 3))
    (kk : ∀ (r : Option Value) (H1 : Heap) (locs1 : List Loc), (∀ q ∈ locs1, gLo g ≤ q.base) → Po r H H1 → W p l e (rmL d mc ms) s m args below meth c H1 locs1 (cells + mc') (slots + ms') Q (F0 m (pc + 3) ls r.toList)) : W p l e (rmL d mc ms) s m args below meth c H locs cells slots Q (F0 m pc ls st) := by
  intro T hT X
  obtain ⟨t, kt, metht, h1, h2, h3, h4, h5, h6, h7, h9, h10⟩ := hF T X.warmed
  have hBH : Base g T.heap := base_at X hL hK.2
  obtain ⟨v, B, X', hpost, hsteps⟩ := (w_back (p := p) (e := e) (below := below) (mc := mc) (ms := ms) hM hws hV.2.2.1 hV.2.1 hR) m meth c ⟨T, locs, cells, slots⟩ { F0 m pc ls st with stack := [] } (.invokestatic mi) t As.toArray X rfl hsz (by rw [hb]; exact hdg) (by show 2 * 0 + 0 ≤ 0; decide) h10 ⟨hc, hs, rfl, ⟨hK.1.warm X.warmed, hBH⟩, by rw [hT]; exact hP⟩
  obtain ⟨gj, mk, tt, L, e1, e2, ⟨r, hr, hp⟩, e4, hfr, e6, e7⟩ := hpost
  cases hr
  dsimp only [Pt.U, Pt.locs, Pt.cells, Pt.slots] at X' e1 e2 e4 e6 e7 hsteps hp
  have hp : Po v H B.1.heap := by
    have hp' : Po v T.heap tt.heap := hp
    rw [hT] at hp'
    rw [e1]; exact hp'
  rw [e4, e6, e7] at X'
  obtain ⟨t2, a1, b1⟩ := kk v B.1.heap (locs ++ L) (fun q hq => (List.mem_append.mp hq).elim (hL q) (hfr q)) hp B.1 rfl X'
  refine ⟨t2, Steps.trans ?_ (hsteps.trans ?_), b1⟩
  · jvm_step X.here [hx, hb, hdg, Op.invokestatic.wp_ready (e := e) (s := T) (m := t) (k := kt) (meth := metht) (args := As) (rest := []) (f := F0 m pc ls st) X.here.top h1 h2 h3 h4 h5 h6 h7 (hn.trans h9.symm) hst]
    intro acts
    rw [doInvoke_state]
    exact Steps.refl _
  · simpa using a1
end LROWS
