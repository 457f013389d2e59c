/-! the site: a lambda's object is made; the forwarders walked -/
def Lo (g : GT) (a k : Nat) (vs : List Value) (H : Heap) : Prop := H[a]? = some { cls := gL g k, slots := vs.toArray, vm := .none }
theorem Lo.lt {g : GT} {a k : Nat} {vs : List Value} {H : Heap} (h : Lo g a k vs H) : a < H.size := (Array.getElem?_eq_some_iff.mp h).1
theorem Lo.ext {g : GT} {a k : Nat} {vs : List Value} {H H1 : Heap} (h : Lo g a k vs H) (e : Ext H H1) : Lo g a k vs H1 := (e.2 _ h.lt).trans h
section LINV
variable {α : Type}
theorem li_19 {x : Option CpInfo} {f : Nat → Nat → Option α} {r : α} (h : Lambda.shapeOf?.match_19 (fun _ => Option α) x f (fun _ => none) = some r) : ∃ b nt, x = some (.invokeDynamic b nt) ∧ f b nt = some r := by
  split at h
  · exact ⟨_, _, rfl, h⟩
  · cases h
theorem li_17 {x : Option CpInfo} {f : Nat → Option α} {r : α} (h : Lambda.shapeOf?.match_17 (fun _ => Option α) x f (fun _ => none) = some r) : ∃ y, f y = some r := by
  split at h
  · exact ⟨_, h⟩
  · cases h
theorem li_15 {x : Array Nat} {f : Nat → Nat → Nat → Option α} {r : α} (h : Lambda.shapeOf?.match_15 (fun _ => Option α) x f (fun _ => none) = some r) : ∃ a0 a1 a2, f a0 a1 a2 = some r := by
  rcases x with ⟨L⟩
  match L, h with
  | [], h => cases h
  | [_], h => cases h
  | [_, _], h => cases h
  | [a, b, c], h => exact ⟨a, b, c, h⟩
  | _ :: _ :: _ :: _ :: _, h => cases h
theorem li_9 {x : Option CpInfo} {f : Nat → Option α} {r : α} (h : Lambda.shapeOf?.match_9 (fun _ => Option α) x f (fun _ => none) = some r) : ∃ y, f y = some r := by
  split at h
  · exact ⟨_, h⟩
  · cases h
theorem li_12 {x : Option CpInfo} {f : Nat → Nat → Option α} {r : α} (h : Lambda.shapeOf?.match_12 (fun _ => Option α) x f (fun _ => none) = some r) : ∃ y z, f y z = some r := by
  split at h
  · exact ⟨_, _, h⟩
  · cases h
theorem li_6 {x : Option FieldType} {f : String → Option α} {r : α} (h : Lambda.shapeOf?.match_6 (fun _ => Option α) x f (fun _ => none) = some r) : ∃ y, f y = some r := by
  split at h
  · exact ⟨_, h⟩
  · cases h
end LINV
/-- what a site's entry is, out of its shape -/
theorem li_site {cf : ClassFile} {index : Nat} {σ : Lambda.Shape} (h : Lambda.shapeOf? cf index = some σ) :
    ∃ (b nt : Nat) (desc : String) (site : MethodDescriptor), cf.constantPool[index]? = some (.invokeDynamic b nt) ∧ cf.constantPool.nameAndType? nt = some (σ.name, desc) ∧ parseMethodDescriptor desc = some site ∧ site.parameters = σ.captured := by
  unfold Lambda.shapeOf? at h
  obtain ⟨b, nt, hc, h⟩ := li_19 h
  obtain ⟨entries, -, h⟩ := Option.bind_eq_some_iff.mp h
  obtain ⟨bm, -, h⟩ := Option.bind_eq_some_iff.mp h
  obtain ⟨r, h⟩ := li_17 h
  obtain ⟨_, -, h⟩ := Option.bind_eq_some_iff.mp h
  obtain ⟨a0, a1, a2, h⟩ := li_15 h
  obtain ⟨d0, h⟩ := li_9 h
  obtain ⟨kind, r1, h⟩ := li_12 h
  obtain ⟨d2, h⟩ := li_9 h
  obtain ⟨⟨name, desc⟩, hnt, h⟩ := Option.bind_eq_some_iff.mp h
  obtain ⟨site, hsite, h⟩ := Option.bind_eq_some_iff.mp h
  obtain ⟨iface, h⟩ := li_6 h
  obtain ⟨⟨implClass, implName, implDesc, implItf⟩, -, h⟩ := Option.bind_eq_some_iff.mp h
  obtain ⟨x1, -, h⟩ := Option.bind_eq_some_iff.mp h
  obtain ⟨x2, -, h⟩ := Option.bind_eq_some_iff.mp h
  obtain ⟨x3, -, h⟩ := Option.bind_eq_some_iff.mp h
  obtain ⟨x4, -, h⟩ := Option.bind_eq_some_iff.mp h
  obtain ⟨x5, -, h⟩ := Option.bind_eq_some_iff.mp h
  cases h
  exact ⟨b, nt, desc, site, hc, hnt, hsite, rfl⟩
section LSITE
variable {p : Program} {l : Launch} {e : Env} {s : State} {m : MethodId} {args : Array Value} {below : List Frame} {meth : Method} {c : Code} {H : Heap} {locs : List Loc} {cells slots mc ms d : Nat} {Q : State → Prop}
variable {cc : ByteArray} {nL pc index : Nat} {ls : Array Slot} {y : MethodName} {ret : Option FieldType} {g : GT} {rest st : List Value} {lv : List (Nat × Value)}
theorem r_indy {k : Nat} {σ : Lambda.Shape} (X : Cx p g s m args meth c cc nL y ret) (hnamed : s.methodNamed? y = some m) (hl : lv_has ls nL lv) (hq : ls_all[k]? = some (y, pc, index, σ)) (vals : List Value) (tys : List FieldType)
    (hkC : ∃ kC : Class, s.vm.classes[gL g k]? = some kC ∧ kC.instanceTypes = tys.toArray ∧ kC.kind = .ordinary) (hcap : σ.captured = tys) (hlen : vals.length = tys.length) (hnar : (tys.zip vals).map (fun (t, v) => narrow t v) = vals) (hfit : ∀ (i : Nat) (t : FieldType) (v : Value), tys[i]? = some t → vals[i]? = some v → fits t v = true)
    (hst : st = vals.reverse ++ rest) (hw : (st.map fun v => v.category).sum ≤ 1024) (hcells : cells + 1 ≤ mc) (hslots : slots + vals.length ≤ ms) (hdg : decode cc pc = .ok (.invokedynamic index, 5))
    (kk : ∀ H1 : Heap, Lo g H.size k vals H1 → Ext H H1 → H1.size = H.size + 1 → W p l e (rmL d mc ms) s m args below meth c H1 locs (cells + 1) (slots + vals.length) Q (F0 m (pc + 5) ls (.ref H.size :: rest))) : W p l e (rmL d mc ms) s m args below meth c H locs cells slots Q (F0 m pc ls st) := by
  obtain ⟨hx, hb, hml, hown, hts, hrt, hlk, ⟨hKV, hBs⟩, hnm⟩ := X
  have hs : s.lambdaAt? y pc index σ = some (gL g k, none) := hKV.2.2.2.1 k _ hq
  obtain ⟨m', kS, cfS, i0, p0, lk, hm', hkS, hcfS, hshape, -, hfind, hmade, hcan, hlk2⟩ := State.lambdaAt?_spec hs
  cases hnamed.symm.trans hm'
  obtain ⟨rfl, -⟩ : lk = .makes (gL g k) ∧ σ.captured ≠ [] := by
    rcases hlk2 with ⟨a, cell, -, h, -⟩ | ⟨h1, -, h2⟩
    · cases h
    · exact ⟨h1, h2⟩
  obtain ⟨bsm, nt, desc, site, hc, hnt, hsite, hpar⟩ := li_site hshape
  obtain ⟨kC, hkC1, hty, hkind⟩ := hkC
  have hsl : ((kC.instanceTypes.toList.zip vals).map fun (t, v) => narrow t v) = vals := by rw [hty]; simpa using hnar
  intro T hT XT
  obtain ⟨X1, st1⟩ := XT.lambdaMakes hx (g := F0 m pc ls st) rfl (hl.1.trans hml.symm) (by rw [hb]; exact hdg) (vals := vals) (rest := rest) hkS hfind hcfS hc hnt (parseLong_of_parse hsite) (by rw [hpar, hcap]; exact hlen) hst hkC1
    (by rw [XT.admits.platform]; show 2 * 0 + (st.map fun v => v.category).sum + 3072 ≤ 4096 + 64 * d; omega) hcells (by rw [hsl]; exact hslots)
    (fun i v hv => by
      rw [hsl] at hv
      have hv' : vals[i]? = some v := by simpa using hv
      have hi : i < tys.length := by rw [← hlen]; exact (List.getElem?_eq_some_iff.mp hv').1
      have ht : tys[i]? = some tys[i] := List.getElem?_eq_getElem hi
      have hf := hfit i _ v ht hv'
      simp [State.fitsSlot, State.slotType?, hkC1, hkind, hty, hi, hf])
  rw [hsl] at X1 st1
  have hT1 : (T.pushCell { cls := gL g k, slots := vals.toArray, vm := .none }).heap = H.push { cls := gL g k, slots := vals.toArray, vm := .none } := by rw [← hT]; rfl
  obtain ⟨t, a1, b1⟩ := kk (H.push { cls := gL g k, slots := vals.toArray, vm := .none }) (by unfold Lo; simp) ⟨by simp, fun q hq => by rw [Array.getElem?_push, if_neg (Nat.ne_of_lt hq)]⟩ (by simp) _ hT1 (by simpa using X1)
  exact ⟨t, st1 t (by rw [hT]; exact a1), b1⟩
end LSITE
/-- a method's body that knows its own name -/
theorem Ct.ofN {l : Launch} {g : GT} {y : MethodName} {cc : ByteArray} {maxL : Nat} {ret : Option FieldType} {d mc ms : Nat} {av : List Value} {P : Heap → Prop} {Po : Option Value → Heap → Heap → Prop} (hy : plainName y.cls = true) (hn : (lg_sl av).length ≤ maxL)
    (body : ∀ (p : Program) (e : Env) (s : State) (m : MethodId) (args : Array Value) (below : List Frame) (meth : Method) (c : Code), Cx p g s m args meth c cc maxL y ret → s.methodNamed? y = some m → P s.heap → ∀ ls, lv_has ls maxL (lv_args 0 av) → W p l e (rmL d mc ms) s m args below meth c s.heap [] 0 0 (MQ below (Qcg Po) args s mc ms (fre g)) (F0 m 0 ls [])) :
    Ct l g y cc maxL ret d mc ms av P Po := by
  refine Met.ofW (cc := cc) (maxL := maxL) (ret := ret) hy rfl ?_
  intro p e s m args below meth c s₁ B hml hv
  obtain ⟨rfl, hKB, hP⟩ := hv
  have hts := atoms_spec (ws := ws_ y cc maxL ret) B.pre
  have hts : ∀ w ∈ lw_all, w.before av.toArray s = true := fun w h => hts w (List.mem_cons_of_mem _ h)
  have hl := lv_entry av (n := maxL) hn
  rw [lg_entry_eq]
  generalize (lg_sl av ++ List.replicate (maxL - (lg_sl av).length) Slot.unset).toArray = ls at hl ⊢
  exact body p e s m _ below meth c ⟨B.exec, B.bytes, hml, findClass_of_methodNamed B.named, hts, B.returns, B.notSynchronized, hKB, (name_of_methodNamed B.named B.method).1⟩ B.named hP ls hl
/-- calling the lambda at a with As: what any caller may rely on -/
def LamRun (l : Launch) (g : GT) (xi : MethodName) (a : Nat) (As : List Value) (D mc' ms' : Nat) (H : Heap) (Po : Option Value → Heap → Heap → Prop) : Prop :=
  ∀ (p : Program) (e : Env) (s : State) (m : MethodId) (args : Array Value) (below : List Frame) (meth : Method) (c : Code) (locs : List Loc) (cells slots mc ms d : Nat) (Q : State → Prop) (cc : ByteArray) (nL pc index count : Nat) (ls : Array Slot) (y : MethodName) (ret : Option FieldType) (rest : List Value) (lv : List (Nat × Value)),
    Cx p g s m args meth c cc nL y ret → (∀ q ∈ locs, gLo g ≤ q.base) → lv_has ls nL lv → Cond.methodLink y.cls index xi ∈ lw_all → (rest.map fun v => v.category).sum ≤ 8 → decode cc pc = .ok (.invokeinterface index count, 5) → D + 1 ≤ d → cells + mc' ≤ mc → slots + ms' ≤ ms →
    (∀ (r : Option Value) (H1 : Heap) (locs1 : List Loc), (∀ q ∈ locs1, gLo g ≤ q.base) → Po r H H1 → W p l e (rmL d mc ms) s m args below meth c H1 locs1 (cells + mc') (slots + ms') Q (F0 m (pc + 5) ls (r.toList ++ rest))) →
    W p l e (rmL d mc ms) s m args below meth c H locs cells slots Q (F0 m pc ls (As.reverse ++ .ref a :: rest))
/-- a boolean answer over new cells alone -/
abbrev PoB (b : Bool) : Option Value → Heap → Heap → Prop := fun r H H1 => r = some (.int (bI b)) ∧ Ext H H1
