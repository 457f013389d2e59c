/-! a lambda is entered, the words at hand -/
section LENTER
variable {p : Program} {l : Launch} {e : Env} {R : Room} {s : State} {m : MethodId} {args : Array Value} {below : List Frame} {meth : Method} {c : Code} {H : Heap} {locs : List Loc} {cells slots mc ms d : Nat} {Q : State → Prop}
variable {cc fwd : ByteArray} {nL nL' pc n index count mc' ms' d' : Nat} {ls : Array Slot} {y : MethodName} {ret : Option FieldType} {g : GT} {Po : Option Value → Heap → Heap → Prop} {a cK : Nat} {As rest st : List Value} {lv : List (Nat × Value)} {xi : MethodName} {cell : Cell}
theorem lam_enter2 (X : Cx p g s m args meth c cc nL y ret) (hL : ∀ q ∈ locs, gLo g ≤ q.base) (hl : lv_has ls nL lv) (hlink : Cond.methodLink y.cls index xi ∈ lw_all) (hxi : xi = xCh ∨ xi = xOr)
    (hcell : H[a]? = some cell) (hcls : cell.cls = cK) (hvm : cell.vm = .none) (hC : ∀ (U : State) (A : Array Value), KV g U → (∀ w ∈ lw_all, w.before A U = true) → LmC U cK xi) (hB : ∀ (U : State) (A : Array Value), KV g U → (∀ w ∈ lw_all, w.before A U = true) → FwB U cK fwd nL')
    (hn : As.length = n) (hnd : (parseMethodDescriptor xi.desc).map (fun d => d.parameters.length) = some n) (hst : st = As.reverse ++ .ref a :: rest) (hW : (rest.map fun v => v.category).sum ≤ 8) (hsl : (lg_sl (.ref a :: As)).length ≤ nL') (hdg : decode cc pc = .ok (.invokeinterface index count, 5))
    (hR : d' + 1 ≤ d ∧ nL' + 19 ≤ 64) (hc : cells + mc' ≤ mc) (hs : slots + ms' ≤ ms)
    (inner : ∀ (s0 : State) (below0 : List Frame) (methk : Method) (ck : Code), ck.code = fwd → ck.maxLocals = nL' → (∀ w ∈ lw_all, w.before (.ref a :: As : List Value).toArray s0 = true) → (KV g s0 ∧ Base g s0.heap) → methk.sig.returnType = some .boolean → methk.locks = false → s0.heap = H → ∀ ls0, lv_has ls0 nL' (lv_args 0 (.ref a :: As)) →
      W p l e (rmL d' mc' ms') s0 ⟨cK, 1⟩ (.ref a :: As : List Value).toArray below0 methk ck H [] 0 0 (MQ below0 (Qcg Po) (.ref a :: As : List Value).toArray s0 mc' ms' (fre g)) (F0 ⟨cK, 1⟩ 0 ls0 []))
    (kk : ∀ (r : Option Value) (H1 : Heap) (locs1 : List Loc), (∀ q ∈ locs1, gLo g ≤ q.base) → Po r H H1 → W p l e (rmL d mc ms) s m args below meth c H1 locs1 (cells + mc') (slots + ms') Q (F0 m (pc + 5) ls (r.toList ++ rest))) :
    W p l e (rmL d mc ms) s m args below meth c H locs cells slots Q (F0 m pc ls st) := by
  obtain ⟨hx, hb, hml, hown, hts, hrt, hlk, ⟨hKV, hBs⟩, hnm⟩ := X
  intro T hT XT
  obtain ⟨r0, r, methk0, kL, kK, i1, i2, i3, i4, i5, i6, i7, i8, i9, i10, i11, i12⟩ := hC s args hKV hts
  have hx0 : xi.cls ≠ "java/lang/invoke/MethodHandle" ∧ xi.cls ≠ "java/lang/invoke/VarHandle" := by rcases hxi with rfl | rfl <;> exact ⟨by decide, by decide⟩
  have hnn : As.length = r.sig.parameters.length := by
    rw [i4] at hnd
    rw [hn]
    exact (Option.some.inj hnd).symm
  obtain ⟨vm₁, X₁, hstep₁⟩ := XT.invokeinterface hx hown (hts _ hlink) i1 i2 i3 i5 i6 hx0 (a := a) (cell := cell) (kcell := kK) (by rw [hT]; exact hcell)
    (fun z h => by rw [hvm] at h; cases h) (by rw [hcls]; exact i7) (by rw [hcls]; exact i8) (m' := ⟨cK, 1⟩) (meth' := methk0) (by rw [Launch.admits_selectMethod XT.admits, hcls]; exact i9) i11 (by rw [hcls]; exact i10) (by rw [i12]; rfl) (by simp [Method.isAbstract, i12, hasFlag, Acc.abstract])
    (g := F0 m pc ls st) rfl (argsL := As) (rest := rest) hnn hst (by rw [hb]; exact hdg)
  have hK1 : KV g (T.setVm vm₁) := hKV.warm X₁.warmed
  obtain ⟨methk, ck, b1, b2, b3, b4, b5, b6, b7, b8⟩ := hB _ args hK1 (fun w hw => word_at (s := s) (U := T.setVm vm₁) X₁.warmed (lw_self w hw).2 (hts w hw))
  have hT1 : (T.setVm vm₁).heap = H := hT
  have hBH : Base g (T.setVm vm₁).heap := base_at X₁ hL hBs
  obtain ⟨Y₀, hin⟩ := X₁.into (g := { F0 m pc ls st with stack := rest }) rfl (hl.1.trans hml.symm) (by rw [hb]; exact hdg) (.ref a :: As : List Value).toArray (R' := rmL d' mc' ms') b1 b2 b3 b4 (by show d' + 1 ≤ d; exact hR.1) (by show 2 * 0 + (rest.map fun v => v.category).sum + (ck.maxLocals + 11) + (4096 + 64 * d') ≤ 4096 + 64 * d; rw [b5]; omega) hc hs
  have hh0 : (((T.setVm vm₁).setTop { F0 m pc ls st with stack := rest }).pushFrame (.java (entryFrame ⟨cK, 1⟩ (.ref a :: As : List Value).toArray ck.maxLocals))).heap = H := hT
  have hle := lv_entry (.ref a :: As) (n := nL') hsl
  have hwin := inner ((T.setVm vm₁).calling { F0 m pc ls st with stack := rest } ⟨cK, 1⟩ (.ref a :: As : List Value).toArray) (.java { F0 m pc ls st with stack := rest } :: below) methk ck b6 b5 (fun w hw => word_at (s := s) (U := (T.setVm vm₁).calling { F0 m pc ls st with stack := rest } ⟨cK, 1⟩ (.ref a :: As : List Value).toArray) X₁.warmed (lw_self w hw).2 (hts w hw)) ⟨hK1.warm (U := (T.setVm vm₁).calling { F0 m pc ls st with stack := rest } ⟨cK, 1⟩ (.ref a :: As : List Value).toArray) (State.WarmedH.refl (T.setVm vm₁)), hBH⟩ b7 b3 hT1 _ hle
  obtain ⟨t, st1, o, hrun, hend, ⟨r1, ho, hp⟩, L, hF, hfr⟩ := hwin _ hh0 Y₀
  cases ho
  obtain ⟨-, hWe, hsame⟩ := hF
  obtain ⟨T', X', hW', -, ht⟩ := X₁.outOf (g := { F0 m pc ls st with stack := rest }) rfl (by rw [hb]; exact hdg) hend hWe hsame
  have hp : Po r1 H T'.heap := by
    have e1 : T'.heap = t.heap := by rw [ht]; rfl
    rw [e1]
    have hp' : Po r1 (T.setVm vm₁).heap t.heap := hp
    rw [hT1] at hp'
    exact hp'
  obtain ⟨t2, a1, bq⟩ := kk r1 T'.heap (locs ++ L) (fun q hq => (List.mem_append.mp hq).elim (hL q) (hfr q)) hp T' rfl X'
  refine ⟨t2, hstep₁ _ fun acts => ?_, bq⟩
  rw [hin acts]
  have hent : entryFrame ⟨cK, 1⟩ (.ref a :: As : List Value).toArray ck.maxLocals = F0 ⟨cK, 1⟩ 0 (lg_sl (.ref a :: As) ++ List.replicate (nL' - (lg_sl (.ref a :: As)).length) Slot.unset).toArray [] := by rw [b5, lg_entry_eq]
  rw [← hent] at st1
  refine Steps.trans (Steps.weaken (mid := [.java { F0 m pc ls st with stack := rest }]) st1) ?_
  rw [ht]
  exact a1
end LENTER

set_option maxHeartbeats 4000000 in
theorem lmr_P1V {l : Launch} {g : GT} {k f0 mi ci a q0 d' mc' ms' maxL : Nat} {b0 : Nat} {fwd cc' : ByteArray} {y' : MethodName} {H : Heap} {P : Heap → Prop} {b : Bool} (hS : ∀ (U : State) (A : Array Value), KV g U → (∀ w ∈ lw_all, w.before A U = true) → FwB U (gL g k) fwd 2 ∧ (FwF U (gL g k) f0 0) ∧ FwC U (gL g k) ci "OfferSky$Offer" ∧ (FwV U (gL g k) mi y' 1))
    (hC : ∀ (U : State) (A : Array Value), KV g U → (∀ w ∈ lw_all, w.before A U = true) → LmC U (gL g k) xCh) (hB : ∀ (U : State) (A : Array Value), KV g U → (∀ w ∈ lw_all, w.before A U = true) → FwB U (gL g k) fwd 2) (d0 : decode fwd 0 = .ok (.aload_n 0, 1)) (d1 : decode fwd 1 = .ok (.getfield f0, 3)) (d4 : decode fwd 4 = .ok (.aload_n 1, 1)) (d5 : decode fwd 5 = .ok (.checkcast ci, 3)) (d8 : decode fwd 8 = .ok (.invokevirtual mi, 3)) (d11 : decode fwd 11 = .ok (.ireturn, 1))
    (hM : Ct l g y' cc' maxL (some .boolean) d' mc' ms' [.ref b0, .ref q0] P (PoB b)) (hV : VB y' cc' maxL (some .boolean) 1) (hmx : maxL ≤ 40) (ha : Lo g a k [.ref b0] H) {fs : List Value} (hb0 : Ob g b0 2 fs H) (hy2 : y'.cls = RX2) {fq0 : List Value} (hq0 : Ob g q0 5 fq0 H) (hP : P H) : LamRun l g xCh a [.ref q0] (d' + 1) mc' ms' H (PoB b) := by
  intro p e s m args below meth c locs cells slots mc ms d Q cc nL pc index count ls y ret rest lv X hL hl hlink hW hdg hD hc hs kk
  have hx := X.1
  obtain ⟨cl0, g0_1, g0_2, g0_3⟩ := ob_cast hq0
  refine lam_enter2 (As := [.ref q0]) (n := 1) (d' := d' + 1) (mc' := mc') (ms' := ms') (Po := PoB b) X hL hl hlink (by first | exact Or.inl rfl | exact Or.inr rfl) ha rfl rfl hC hB rfl (by decide +kernel) rfl hW (Nat.le_of_ble_eq_true rfl) hdg ⟨hD, by decide⟩ hc hs ?_ kk
  intro s0 below0 methk ck hb hml hws hK hret hlk hH ls0 hl0
  have hl0 : lv_has ls0 2 [(0, .ref a), (1, .ref q0)] := hl0
  have hL0 : ∀ q ∈ ([] : List Loc), gLo g ≤ q.base := fun _ h => by cases h
  have hFS := fun (U : State) (hW : s0.WarmedH U.vm) => hS U #[] (hK.1.warm hW) (fun w hw => word_at hW (lw_self w hw).2 (hws w hw))
  refine lv_aload_n hx hb d0 rfl (lv_at hl0 0 rfl) ?_
  refine w_getR hx hb (fi := f0) (sl := 0) (fun U hW => (hFS U hW).2.1) ha rfl rfl d1 ?_
  refine lv_aload_n hx hb d4 rfl (lv_at hl0 1 rfl) ?_
  refine w_castR hx hb (fun U hW => (hFS U hW).2.2.1) g0_1 g0_2 (fun U hW => g0_3 U (hK.1.warm hW)) d5 ?_
  refine w_virtR (As := [.ref q0]) hM hx hb (hl0.1.trans hml.symm) hL0 hws hK hV (fun U hW => (hFS U hW).2.2.2) (by rw [hy2]; exact hb0.recv hK.1 rfl) rfl rfl ⟨Nat.le_refl _, by omega⟩ (by omega) (by omega) hP d8 (fun r H1 locs1 hL1 hp => ?_)
  obtain ⟨rfl, hE⟩ := hp
  refine W.widen (k := mc') (n := ms') (by omega) (by omega) ?_
  exact W.zret hx hb hret (narrow_bI _) (fun t ht hW => ⟨_, rfl, rfl, by rw [ht, hH]; exact hE⟩) hL1 d11 hlk
set_option maxHeartbeats 4000000 in
theorem lmr_P2V {l : Launch} {g : GT} {k f0 f1 mi ci a q0 d' mc' ms' maxL : Nat} {b0 : Nat} {b1 : Nat} {fwd cc' : ByteArray} {y' : MethodName} {H : Heap} {P : Heap → Prop} {b : Bool} (hS : ∀ (U : State) (A : Array Value), KV g U → (∀ w ∈ lw_all, w.before A U = true) → FwB U (gL g k) fwd 2 ∧ (FwF U (gL g k) f0 0 ∧ FwF U (gL g k) f1 1) ∧ FwC U (gL g k) ci "OfferSky$Offer" ∧ (FwV U (gL g k) mi y' 2))
    (hC : ∀ (U : State) (A : Array Value), KV g U → (∀ w ∈ lw_all, w.before A U = true) → LmC U (gL g k) xCh) (hB : ∀ (U : State) (A : Array Value), KV g U → (∀ w ∈ lw_all, w.before A U = true) → FwB U (gL g k) fwd 2) (d0 : decode fwd 0 = .ok (.aload_n 0, 1)) (d1 : decode fwd 1 = .ok (.getfield f0, 3)) (d4 : decode fwd 4 = .ok (.aload_n 0, 1)) (d5 : decode fwd 5 = .ok (.getfield f1, 3)) (d8 : decode fwd 8 = .ok (.aload_n 1, 1)) (d9 : decode fwd 9 = .ok (.checkcast ci, 3)) (d12 : decode fwd 12 = .ok (.invokevirtual mi, 3)) (d15 : decode fwd 15 = .ok (.ireturn, 1))
    (hM : Ct l g y' cc' maxL (some .boolean) d' mc' ms' [.ref b0, .ref b1, .ref q0] P (PoB b)) (hV : VB y' cc' maxL (some .boolean) 2) (hmx : maxL ≤ 40) (ha : Lo g a k [.ref b0, .ref b1] H) {fs : List Value} (hb0 : Ob g b0 2 fs H) (hy2 : y'.cls = RX2) {fq0 : List Value} (hq0 : Ob g q0 5 fq0 H) (hP : P H) : LamRun l g xCh a [.ref q0] (d' + 1) mc' ms' H (PoB b) := by
  intro p e s m args below meth c locs cells slots mc ms d Q cc nL pc index count ls y ret rest lv X hL hl hlink hW hdg hD hc hs kk
  have hx := X.1
  obtain ⟨cl0, g0_1, g0_2, g0_3⟩ := ob_cast hq0
  refine lam_enter2 (As := [.ref q0]) (n := 1) (d' := d' + 1) (mc' := mc') (ms' := ms') (Po := PoB b) X hL hl hlink (by first | exact Or.inl rfl | exact Or.inr rfl) ha rfl rfl hC hB rfl (by decide +kernel) rfl hW (Nat.le_of_ble_eq_true rfl) hdg ⟨hD, by decide⟩ hc hs ?_ kk
  intro s0 below0 methk ck hb hml hws hK hret hlk hH ls0 hl0
  have hl0 : lv_has ls0 2 [(0, .ref a), (1, .ref q0)] := hl0
  have hL0 : ∀ q ∈ ([] : List Loc), gLo g ≤ q.base := fun _ h => by cases h
  have hFS := fun (U : State) (hW : s0.WarmedH U.vm) => hS U #[] (hK.1.warm hW) (fun w hw => word_at hW (lw_self w hw).2 (hws w hw))
  refine lv_aload_n hx hb d0 rfl (lv_at hl0 0 rfl) ?_
  refine w_getR hx hb (fi := f0) (sl := 0) (fun U hW => (hFS U hW).2.1.1) ha rfl rfl d1 ?_
  refine lv_aload_n hx hb d4 rfl (lv_at hl0 0 rfl) ?_
  refine w_getR hx hb (fi := f1) (sl := 1) (fun U hW => (hFS U hW).2.1.2) ha rfl rfl d5 ?_
  refine lv_aload_n hx hb d8 rfl (lv_at hl0 1 rfl) ?_
  refine w_castR hx hb (fun U hW => (hFS U hW).2.2.1) g0_1 g0_2 (fun U hW => g0_3 U (hK.1.warm hW)) d9 ?_
  refine w_virtR (As := [.ref b1, .ref q0]) hM hx hb (hl0.1.trans hml.symm) hL0 hws hK hV (fun U hW => (hFS U hW).2.2.2) (by rw [hy2]; exact hb0.recv hK.1 rfl) rfl rfl ⟨Nat.le_refl _, by omega⟩ (by omega) (by omega) hP d12 (fun r H1 locs1 hL1 hp => ?_)
  obtain ⟨rfl, hE⟩ := hp
  refine W.widen (k := mc') (n := ms') (by omega) (by omega) ?_
  exact W.zret hx hb hret (narrow_bI _) (fun t ht hW => ⟨_, rfl, rfl, by rw [ht, hH]; exact hE⟩) hL1 d15 hlk
set_option maxHeartbeats 4000000 in
theorem lmr_P3V {l : Launch} {g : GT} {k f0 f1 f2 mi ci a q0 d' mc' ms' maxL : Nat} {b0 : Nat} {b1 : Nat} {b2 : Int32} {fwd cc' : ByteArray} {y' : MethodName} {H : Heap} {P : Heap → Prop} {b : Bool} (hS : ∀ (U : State) (A : Array Value), KV g U → (∀ w ∈ lw_all, w.before A U = true) → FwB U (gL g k) fwd 2 ∧ (FwF U (gL g k) f0 0 ∧ FwF U (gL g k) f1 1 ∧ FwF U (gL g k) f2 2) ∧ FwC U (gL g k) ci "OfferSky$Offer" ∧ (FwV U (gL g k) mi y' 3))
    (hC : ∀ (U : State) (A : Array Value), KV g U → (∀ w ∈ lw_all, w.before A U = true) → LmC U (gL g k) xCh) (hB : ∀ (U : State) (A : Array Value), KV g U → (∀ w ∈ lw_all, w.before A U = true) → FwB U (gL g k) fwd 2) (d0 : decode fwd 0 = .ok (.aload_n 0, 1)) (d1 : decode fwd 1 = .ok (.getfield f0, 3)) (d4 : decode fwd 4 = .ok (.aload_n 0, 1)) (d5 : decode fwd 5 = .ok (.getfield f1, 3)) (d8 : decode fwd 8 = .ok (.aload_n 0, 1)) (d9 : decode fwd 9 = .ok (.getfield f2, 3)) (d12 : decode fwd 12 = .ok (.aload_n 1, 1)) (d13 : decode fwd 13 = .ok (.checkcast ci, 3)) (d16 : decode fwd 16 = .ok (.invokevirtual mi, 3)) (d19 : decode fwd 19 = .ok (.ireturn, 1))
    (hM : Ct l g y' cc' maxL (some .boolean) d' mc' ms' [.ref b0, .ref b1, .int b2, .ref q0] P (PoB b)) (hV : VB y' cc' maxL (some .boolean) 3) (hmx : maxL ≤ 40) (ha : Lo g a k [.ref b0, .ref b1, .int b2] H) {fs : List Value} (hb0 : Ob g b0 2 fs H) (hy2 : y'.cls = RX2) {fq0 : List Value} (hq0 : Ob g q0 5 fq0 H) (hP : P H) : LamRun l g xCh a [.ref q0] (d' + 1) mc' ms' H (PoB b) := by
  intro p e s m args below meth c locs cells slots mc ms d Q cc nL pc index count ls y ret rest lv X hL hl hlink hW hdg hD hc hs kk
  have hx := X.1
  obtain ⟨cl0, g0_1, g0_2, g0_3⟩ := ob_cast hq0
  refine lam_enter2 (As := [.ref q0]) (n := 1) (d' := d' + 1) (mc' := mc') (ms' := ms') (Po := PoB b) X hL hl hlink (by first | exact Or.inl rfl | exact Or.inr rfl) ha rfl rfl hC hB rfl (by decide +kernel) rfl hW (Nat.le_of_ble_eq_true rfl) hdg ⟨hD, by decide⟩ hc hs ?_ kk
  intro s0 below0 methk ck hb hml hws hK hret hlk hH ls0 hl0
  have hl0 : lv_has ls0 2 [(0, .ref a), (1, .ref q0)] := hl0
  have hL0 : ∀ q ∈ ([] : List Loc), gLo g ≤ q.base := fun _ h => by cases h
  have hFS := fun (U : State) (hW : s0.WarmedH U.vm) => hS U #[] (hK.1.warm hW) (fun w hw => word_at hW (lw_self w hw).2 (hws w hw))
  refine lv_aload_n hx hb d0 rfl (lv_at hl0 0 rfl) ?_
  refine w_getR hx hb (fi := f0) (sl := 0) (fun U hW => (hFS U hW).2.1.1) ha rfl rfl d1 ?_
  refine lv_aload_n hx hb d4 rfl (lv_at hl0 0 rfl) ?_
  refine w_getR hx hb (fi := f1) (sl := 1) (fun U hW => (hFS U hW).2.1.2.1) ha rfl rfl d5 ?_
  refine lv_aload_n hx hb d8 rfl (lv_at hl0 0 rfl) ?_
  refine w_getR hx hb (fi := f2) (sl := 2) (fun U hW => (hFS U hW).2.1.2.2) ha rfl rfl d9 ?_
  refine lv_aload_n hx hb d12 rfl (lv_at hl0 1 rfl) ?_
  refine w_castR hx hb (fun U hW => (hFS U hW).2.2.1) g0_1 g0_2 (fun U hW => g0_3 U (hK.1.warm hW)) d13 ?_
  refine w_virtR (As := [.ref b1, .int b2, .ref q0]) hM hx hb (hl0.1.trans hml.symm) hL0 hws hK hV (fun U hW => (hFS U hW).2.2.2) (by rw [hy2]; exact hb0.recv hK.1 rfl) rfl rfl ⟨Nat.le_refl _, by omega⟩ (by omega) (by omega) hP d16 (fun r H1 locs1 hL1 hp => ?_)
  obtain ⟨rfl, hE⟩ := hp
  refine W.widen (k := mc') (n := ms') (by omega) (by omega) ?_
  exact W.zret hx hb hret (narrow_bI _) (fun t ht hW => ⟨_, rfl, rfl, by rw [ht, hH]; exact hE⟩) hL1 d19 hlk
set_option maxHeartbeats 4000000 in
theorem lmr_O1V {l : Launch} {g : GT} {k f0 mi ci a q0 q1 d' mc' ms' maxL : Nat} {b0 : Nat} {fwd cc' : ByteArray} {y' : MethodName} {H : Heap} {P : Heap → Prop} {b : Bool} (hS : ∀ (U : State) (A : Array Value), KV g U → (∀ w ∈ lw_all, w.before A U = true) → FwB U (gL g k) fwd 3 ∧ (FwF U (gL g k) f0 0) ∧ FwC U (gL g k) ci "OfferSky$Offer" ∧ (FwV U (gL g k) mi y' 2))
    (hC : ∀ (U : State) (A : Array Value), KV g U → (∀ w ∈ lw_all, w.before A U = true) → LmC U (gL g k) xOr) (hB : ∀ (U : State) (A : Array Value), KV g U → (∀ w ∈ lw_all, w.before A U = true) → FwB U (gL g k) fwd 3) (d0 : decode fwd 0 = .ok (.aload_n 0, 1)) (d1 : decode fwd 1 = .ok (.getfield f0, 3)) (d4 : decode fwd 4 = .ok (.aload_n 1, 1)) (d5 : decode fwd 5 = .ok (.checkcast ci, 3)) (d8 : decode fwd 8 = .ok (.aload_n 2, 1)) (d9 : decode fwd 9 = .ok (.checkcast ci, 3)) (d12 : decode fwd 12 = .ok (.invokevirtual mi, 3)) (d15 : decode fwd 15 = .ok (.ireturn, 1))
    (hM : Ct l g y' cc' maxL (some .boolean) d' mc' ms' [.ref b0, .ref q0, .ref q1] P (PoB b)) (hV : VB y' cc' maxL (some .boolean) 2) (hmx : maxL ≤ 40) (ha : Lo g a k [.ref b0] H) {fs : List Value} (hb0 : Ob g b0 2 fs H) (hy2 : y'.cls = RX2) {fq0 : List Value} (hq0 : Ob g q0 5 fq0 H) {fq1 : List Value} (hq1 : Ob g q1 5 fq1 H) (hP : P H) : LamRun l g xOr a [.ref q0, .ref q1] (d' + 1) mc' ms' H (PoB b) := by
  intro p e s m args below meth c locs cells slots mc ms d Q cc nL pc index count ls y ret rest lv X hL hl hlink hW hdg hD hc hs kk
  have hx := X.1
  obtain ⟨cl0, g0_1, g0_2, g0_3⟩ := ob_cast hq0
  obtain ⟨cl1, g1_1, g1_2, g1_3⟩ := ob_cast hq1
  refine lam_enter2 (As := [.ref q0, .ref q1]) (n := 2) (d' := d' + 1) (mc' := mc') (ms' := ms') (Po := PoB b) X hL hl hlink (by first | exact Or.inl rfl | exact Or.inr rfl) ha rfl rfl hC hB rfl (by decide +kernel) rfl hW (Nat.le_of_ble_eq_true rfl) hdg ⟨hD, by decide⟩ hc hs ?_ kk
  intro s0 below0 methk ck hb hml hws hK hret hlk hH ls0 hl0
  have hl0 : lv_has ls0 3 [(0, .ref a), (1, .ref q0), (2, .ref q1)] := hl0
  have hL0 : ∀ q ∈ ([] : List Loc), gLo g ≤ q.base := fun _ h => by cases h
  have hFS := fun (U : State) (hW : s0.WarmedH U.vm) => hS U #[] (hK.1.warm hW) (fun w hw => word_at hW (lw_self w hw).2 (hws w hw))
  refine lv_aload_n hx hb d0 rfl (lv_at hl0 0 rfl) ?_
  refine w_getR hx hb (fi := f0) (sl := 0) (fun U hW => (hFS U hW).2.1) ha rfl rfl d1 ?_
  refine lv_aload_n hx hb d4 rfl (lv_at hl0 1 rfl) ?_
  refine w_castR hx hb (fun U hW => (hFS U hW).2.2.1) g0_1 g0_2 (fun U hW => g0_3 U (hK.1.warm hW)) d5 ?_
  refine lv_aload_n hx hb d8 rfl (lv_at hl0 2 rfl) ?_
  refine w_castR hx hb (fun U hW => (hFS U hW).2.2.1) g1_1 g1_2 (fun U hW => g1_3 U (hK.1.warm hW)) d9 ?_
  refine w_virtR (As := [.ref q0, .ref q1]) hM hx hb (hl0.1.trans hml.symm) hL0 hws hK hV (fun U hW => (hFS U hW).2.2.2) (by rw [hy2]; exact hb0.recv hK.1 rfl) rfl rfl ⟨Nat.le_refl _, by omega⟩ (by omega) (by omega) hP d12 (fun r H1 locs1 hL1 hp => ?_)
  obtain ⟨rfl, hE⟩ := hp
  refine W.widen (k := mc') (n := ms') (by omega) (by omega) ?_
  exact W.zret hx hb hret (narrow_bI _) (fun t ht hW => ⟨_, rfl, rfl, by rw [ht, hH]; exact hE⟩) hL1 d15 hlk
set_option maxHeartbeats 4000000 in
theorem lmr_P1S {l : Launch} {g : GT} {k f0 mi ci a q0 d' mc' ms' maxL : Nat} {b0 : Nat} {fwd cc' : ByteArray} {y' : MethodName} {H : Heap} {P : Heap → Prop} {b : Bool} (hS : ∀ (U : State) (A : Array Value), KV g U → (∀ w ∈ lw_all, w.before A U = true) → FwB U (gL g k) fwd 2 ∧ (FwF U (gL g k) f0 0) ∧ FwC U (gL g k) ci "OfferSky$Offer" ∧ (∀ e : Env, FwS e U (gL g k) mi y' 2))
    (hC : ∀ (U : State) (A : Array Value), KV g U → (∀ w ∈ lw_all, w.before A U = true) → LmC U (gL g k) xCh) (hB : ∀ (U : State) (A : Array Value), KV g U → (∀ w ∈ lw_all, w.before A U = true) → FwB U (gL g k) fwd 2) (d0 : decode fwd 0 = .ok (.aload_n 0, 1)) (d1 : decode fwd 1 = .ok (.getfield f0, 3)) (d4 : decode fwd 4 = .ok (.aload_n 1, 1)) (d5 : decode fwd 5 = .ok (.checkcast ci, 3)) (d8 : decode fwd 8 = .ok (.invokestatic mi, 3)) (d11 : decode fwd 11 = .ok (.ireturn, 1))
    (hM : Ct l g y' cc' maxL (some .boolean) d' mc' ms' [.ref b0, .ref q0] P (PoB b)) (hV : SB y' cc' maxL (some .boolean) 2) (hmx : maxL ≤ 40) (ha : Lo g a k [.ref b0] H) {fq0 : List Value} (hq0 : Ob g q0 5 fq0 H) (hP : P H) : LamRun l g xCh a [.ref q0] (d' + 1) mc' ms' H (PoB b) := by
  intro p e s m args below meth c locs cells slots mc ms d Q cc nL pc index count ls y ret rest lv X hL hl hlink hW hdg hD hc hs kk
  have hx := X.1
  obtain ⟨cl0, g0_1, g0_2, g0_3⟩ := ob_cast hq0
  refine lam_enter2 (As := [.ref q0]) (n := 1) (d' := d' + 1) (mc' := mc') (ms' := ms') (Po := PoB b) X hL hl hlink (by first | exact Or.inl rfl | exact Or.inr rfl) ha rfl rfl hC hB rfl (by decide +kernel) rfl hW (Nat.le_of_ble_eq_true rfl) hdg ⟨hD, by decide⟩ hc hs ?_ kk
  intro s0 below0 methk ck hb hml hws hK hret hlk hH ls0 hl0
  have hl0 : lv_has ls0 2 [(0, .ref a), (1, .ref q0)] := hl0
  have hL0 : ∀ q ∈ ([] : List Loc), gLo g ≤ q.base := fun _ h => by cases h
  have hFS := fun (U : State) (hW : s0.WarmedH U.vm) => hS U #[] (hK.1.warm hW) (fun w hw => word_at hW (lw_self w hw).2 (hws w hw))
  refine lv_aload_n hx hb d0 rfl (lv_at hl0 0 rfl) ?_
  refine w_getR hx hb (fi := f0) (sl := 0) (fun U hW => (hFS U hW).2.1) ha rfl rfl d1 ?_
  refine lv_aload_n hx hb d4 rfl (lv_at hl0 1 rfl) ?_
  refine w_castR hx hb (fun U hW => (hFS U hW).2.2.1) g0_1 g0_2 (fun U hW => g0_3 U (hK.1.warm hW)) d5 ?_
  refine w_statR (As := [.ref b0, .ref q0]) hM hx hb (hl0.1.trans hml.symm) hL0 hws hK hV (fun U hW => (hFS U hW).2.2.2 e) rfl rfl ⟨Nat.le_refl _, by omega⟩ (by omega) (by omega) hP d8 (fun r H1 locs1 hL1 hp => ?_)
  obtain ⟨rfl, hE⟩ := hp
  refine W.widen (k := mc') (n := ms') (by omega) (by omega) ?_
  exact W.zret hx hb hret (narrow_bI _) (fun t ht hW => ⟨_, rfl, rfl, by rw [ht, hH]; exact hE⟩) hL1 d11 hlk
