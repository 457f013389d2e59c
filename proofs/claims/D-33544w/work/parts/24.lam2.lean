/-! the call of a lambda's object by its interface -/
def xCh : MethodName := ⟨"OfferSky$Choice", "holds", "(Ljava/lang/Object;)Z"⟩
def xOr : MethodName := ⟨"OfferSky$Order", "isAhead", "(Ljava/lang/Object;Ljava/lang/Object;)Z"⟩
def LmC (U : State) (cK : ClassId) (xi : MethodName) : Prop := ∃ (r0 : MethodId) (r methk : Method) (kL kK : Class), U.methodNamed? xi = some r0 ∧ U.vm.method? r0 = some r ∧ r.isStatic = false ∧ parseMethodDescriptor xi.desc = some r.sig ∧ U.vm.classes[r0.cls]? = some kL ∧ kL.isInterface = true ∧ U.vm.classes[cK]? = some kK ∧ U.vm.assignable cK r0.cls = true ∧ selectMethod {} U.vm cK r0 = .method ⟨cK, 1⟩ ∧
  ((cK :: U.vm.superclasses cK).any fun k => (declaredIn U.vm r.name r.desc k).any fun (_, y) => y.isPrivate || y.isStatic) = false ∧ U.vm.method? ⟨cK, 1⟩ = some methk ∧ methk.accessFlags = 0x0001
theorem LmC.of {g : GT} {U : State} {k : Nat} {q : MethodName × Nat × Nat × Lambda.Shape} {xi : MethodName} {fwd : ByteArray} {nL : Nat} (hKV : KV g U) (hq : ls_all[k]? = some q) (hxi : xi = xCh ∨ xi = xOr) (h1 : q.2.2.2.iface = xi.cls) (h2 : q.2.2.2.name = xi.name) (h3 : q.2.2.2.sam.toString = xi.desc) (hB : FwB U (gL g k) fwd nL) : LmC U (gL g k) xi := by
  obtain ⟨x, pc, index, σ⟩ := q
  have hs : U.lambdaAt? x pc index σ = some (gL g k, none) := hKV.2.2.2.1 k _ hq
  obtain ⟨m, kc, cf, i0, p0, l, hm, hk, hcf, hsh, hin, hfind, hmade, hcall, hl⟩ := State.lambdaAt?_spec hs
  obtain ⟨dk, kK, ok, tk, file, cf', object, iface', t, lay, methods, target, found, -, hkK, -, -, -, hi', -, -, -, -, -, -, hfound', -, -, -, -, -, -, -, -, -, -, hsel⟩ := Lambda.isMade_spec hmade
  obtain ⟨i, hi, hasg, hway⟩ := State.lambdaCallable_spec hcall
  cases hi.symm.trans hi'
  have hdec : (Cond.declares xi).before #[] U = true := by
    refine hKV.2.1 _ (List.mem_filter.mpr ⟨?_, rfl⟩)
    rcases hxi with rfl | rfl
    · exact q552
    · exact q1032
  have hfac : (Cond.interfaceMethod xi.cls xi.cls xi.name xi.desc).before #[] U = true := hKV.2.2.1 xi (by rcases hxi with rfl | rfl <;> simp [xCh, xOr])
  obtain ⟨r0, r, hn, hrm, hstR, hsigR⟩ := Cond.declares_spec hdec
  obtain ⟨cL, kL, r1, hcL, hkL, hiL, hfoundL, hn1⟩ := Cond.interfaceMethod_spec hfac
  cases hn.symm.trans hn1
  have hr0cls : r0.cls = cL := Option.some.inj ((findClass_of_methodNamed hn).symm.trans hcL)
  obtain ⟨hnameR, hdescR⟩ := name_of_methodNamed hn hrm
  have h1 : σ.iface = xi.cls := h1
  have h2 : σ.name = xi.name := h2
  have h3 : σ.sam.toString = xi.desc := h3
  rw [h1] at hi
  have hci : iface' = cL := Option.some.inj (hi.symm.trans hcL)
  subst hci
  have hf0 : found = r0 := by
    have hf := hfoundL
    simp only [State.methodFound?, hcL, hkL, hiL, Option.bind_eq_bind, Option.bind_some] at hf
    rw [h2, h3] at hfound'
    rw [hfound'] at hf
    exact Option.some.inj hf
  subst hf0
  obtain ⟨methk, ck, hmk, -, -, -, -, -, -, hfl⟩ := hB
  exact ⟨found, r, methk, kL, kK, hn, hrm, hstR, hsigR, by rw [hr0cls]; exact hkL, hiL, hkK, by rw [hr0cls]; exact hasg, hsel, by rw [hnameR, hdescR, ← h2, ← h3]; exact hway, hmk, hfl⟩
section LENTER
variable {p : Program} {l : Launch} {e : Env} {R : Room} {s : State} {m : MethodId} {args : Array Value} {below : List Frame} {meth : Method} {c : Code} {H : Heap} {locs : List Loc} {cells slots mc ms d : Nat} {Q : State → Prop}
variable {cc fwd : ByteArray} {nL nL' pc n index count mc' ms' d' : Nat} {ls : Array Slot} {y : MethodName} {ret : Option FieldType} {g : GT} {Po : Option Value → Heap → Heap → Prop} {a cK : Nat} {As rest st : List Value} {lv : List (Nat × Value)} {xi : MethodName} {cell : Cell}
theorem lam_enter (X : Cx p g s m args meth c cc nL y ret) (hL : ∀ q ∈ locs, gLo g ≤ q.base) (hl : lv_has ls nL lv) (hlink : Cond.methodLink y.cls index xi ∈ lw_all) (hxi : xi = xCh ∨ xi = xOr)
    (hcell : H[a]? = some cell) (hcls : cell.cls = cK) (hvm : cell.vm = .none) (hC : ∀ U : State, KV g U → LmC U cK xi) (hB : ∀ U : State, KV g U → FwB U cK fwd nL')
    (hn : As.length = n) (hnd : (parseMethodDescriptor xi.desc).map (fun d => d.parameters.length) = some n) (hst : st = As.reverse ++ .ref a :: rest) (hW : (rest.map fun v => v.category).sum ≤ 8) (hsl : (lg_sl (.ref a :: As)).length ≤ nL') (hdg : decode cc pc = .ok (.invokeinterface index count, 5))
    (hR : d' + 1 ≤ d ∧ nL' + 19 ≤ 64) (hc : cells + mc' ≤ mc) (hs : slots + ms' ≤ ms)
    (inner : ∀ (s0 : State) (below0 : List Frame) (methk : Method) (ck : Code), ck.code = fwd → ck.maxLocals = nL' → (∀ w ∈ lw_all, w.before (.ref a :: As : List Value).toArray s0 = true) → (KV g s0 ∧ Base g s0.heap) → methk.sig.returnType = some .boolean → methk.locks = false → s0.heap = H → ∀ ls0, lv_has ls0 nL' (lv_args 0 (.ref a :: As)) →
      W p l e (rmL d' mc' ms') s0 ⟨cK, 1⟩ (.ref a :: As : List Value).toArray below0 methk ck H [] 0 0 (MQ below0 (Qcg Po) (.ref a :: As : List Value).toArray s0 mc' ms' (fre g)) (F0 ⟨cK, 1⟩ 0 ls0 []))
    (kk : ∀ (r : Option Value) (H1 : Heap) (locs1 : List Loc), (∀ q ∈ locs1, gLo g ≤ q.base) → Po r H H1 → W p l e (rmL d mc ms) s m args below meth c H1 locs1 (cells + mc') (slots + ms') Q (F0 m (pc + 5) ls (r.toList ++ rest))) :
    W p l e (rmL d mc ms) s m args below meth c H locs cells slots Q (F0 m pc ls st) := by
  obtain ⟨hx, hb, hml, hown, hts, hrt, hlk, ⟨hKV, hBs⟩, hnm⟩ := X
  intro T hT XT
  obtain ⟨r0, r, methk0, kL, kK, i1, i2, i3, i4, i5, i6, i7, i8, i9, i10, i11, i12⟩ := hC s hKV
  have hx0 : xi.cls ≠ "java/lang/invoke/MethodHandle" ∧ xi.cls ≠ "java/lang/invoke/VarHandle" := by rcases hxi with rfl | rfl <;> exact ⟨by decide, by decide⟩
  have hnn : As.length = r.sig.parameters.length := by
    rw [i4] at hnd
    rw [hn]
    exact (Option.some.inj hnd).symm
  obtain ⟨vm₁, X₁, hstep₁⟩ := XT.invokeinterface hx hown (hts _ hlink) i1 i2 i3 i5 i6 hx0 (a := a) (cell := cell) (kcell := kK) (by rw [hT]; exact hcell)
    (fun z h => by rw [hvm] at h; cases h) (by rw [hcls]; exact i7) (by rw [hcls]; exact i8) (m' := ⟨cK, 1⟩) (meth' := methk0) (by rw [Launch.admits_selectMethod XT.admits, hcls]; exact i9) i11 (by rw [hcls]; exact i10) (by rw [i12]; rfl) (by simp [Method.isAbstract, i12, hasFlag, Acc.abstract])
    (g := F0 m pc ls st) rfl (argsL := As) (rest := rest) hnn hst (by rw [hb]; exact hdg)
  have hK1 : KV g (T.setVm vm₁) := hKV.warm X₁.warmed
  obtain ⟨methk, ck, b1, b2, b3, b4, b5, b6, b7, b8⟩ := hB _ hK1
  have hT1 : (T.setVm vm₁).heap = H := hT
  have hBH : Base g (T.setVm vm₁).heap := base_at X₁ hL hBs
  obtain ⟨Y₀, hin⟩ := X₁.into (g := { F0 m pc ls st with stack := rest }) rfl (hl.1.trans hml.symm) (by rw [hb]; exact hdg) (.ref a :: As : List Value).toArray (R' := rmL d' mc' ms') b1 b2 b3 b4 (by show d' + 1 ≤ d; exact hR.1) (by show 2 * 0 + (rest.map fun v => v.category).sum + (ck.maxLocals + 11) + (4096 + 64 * d') ≤ 4096 + 64 * d; rw [b5]; omega) hc hs
  have hh0 : (((T.setVm vm₁).setTop { F0 m pc ls st with stack := rest }).pushFrame (.java (entryFrame ⟨cK, 1⟩ (.ref a :: As : List Value).toArray ck.maxLocals))).heap = H := hT
  have hle := lv_entry (.ref a :: As) (n := nL') hsl
  have hwin := inner ((T.setVm vm₁).calling { F0 m pc ls st with stack := rest } ⟨cK, 1⟩ (.ref a :: As : List Value).toArray) (.java { F0 m pc ls st with stack := rest } :: below) methk ck b6 b5 (fun w hw => word_at (s := s) (U := (T.setVm vm₁).calling { F0 m pc ls st with stack := rest } ⟨cK, 1⟩ (.ref a :: As : List Value).toArray) X₁.warmed (lw_self w hw).2 (hts w hw)) ⟨hK1.warm (U := (T.setVm vm₁).calling { F0 m pc ls st with stack := rest } ⟨cK, 1⟩ (.ref a :: As : List Value).toArray) (State.WarmedH.refl (T.setVm vm₁)), hBH⟩ b7 b3 hT1 _ hle
  obtain ⟨t, st1, o, hrun, hend, ⟨r1, ho, hp⟩, L, hF, hfr⟩ := hwin _ hh0 Y₀
  cases ho
  obtain ⟨-, hWe, hsame⟩ := hF
  obtain ⟨T', X', hW', -, ht⟩ := X₁.outOf (g := { F0 m pc ls st with stack := rest }) rfl (by rw [hb]; exact hdg) hend hWe hsame
  have hp : Po r1 H T'.heap := by
    have e1 : T'.heap = t.heap := by rw [ht]; rfl
    rw [e1]
    have hp' : Po r1 (T.setVm vm₁).heap t.heap := hp
    rw [hT1] at hp'
    exact hp'
  obtain ⟨t2, a1, bq⟩ := kk r1 T'.heap (locs ++ L) (fun q hq => (List.mem_append.mp hq).elim (hL q) (hfr q)) hp T' rfl X'
  refine ⟨t2, hstep₁ _ fun acts => ?_, bq⟩
  rw [hin acts]
  have hent : entryFrame ⟨cK, 1⟩ (.ref a :: As : List Value).toArray ck.maxLocals = F0 ⟨cK, 1⟩ 0 (lg_sl (.ref a :: As) ++ List.replicate (nL' - (lg_sl (.ref a :: As)).length) Slot.unset).toArray [] := by rw [b5, lg_entry_eq]
  rw [← hent] at st1
  refine Steps.trans (Steps.weaken (mid := [.java { F0 m pc ls st with stack := rest }]) st1) ?_
  rw [ht]
  exact a1
end LENTER
