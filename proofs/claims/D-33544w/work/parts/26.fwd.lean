/-! the forwarders walked, by pattern: captures, arguments, the target's kind -/
theorem ob_cast {g : GT} {q : Nat} {fq : List Value} {H : Heap} (h : Ob g q 5 fq H) : ∃ cell : Cell, H[q]? = some cell ∧ cell.vm.isStatics = false ∧ ∀ U : State, KV g U → (∃ ks, U.vm.classes[cell.cls]? = some ks) ∧ ∀ cT, U.vm.findClass "OfferSky$Offer" = some cT → U.vm.assignable cell.cls cT = true := by
  obtain ⟨r, h1, cell, q1, q2, q3, -⟩ := h
  refine ⟨cell, q1, by rw [q3]; rfl, fun U hK => ?_⟩
  have hca := (hK.1.1 5 _ rfl).2
  rw [q2]
  refine ⟨?_, fun cT h => ?_⟩
  · obtain ⟨kx, hkx, -⟩ := hca.2
    exact ⟨kx, hkx⟩
  · have : (gD g).1 5 = cT := Option.some.inj (hca.1.symm.trans h)
    rw [← this]
    exact va_assign hca
set_option maxHeartbeats 4000000 in
theorem lam_P1V {l : Launch} {g : GT} {k f0 mi ci a q0 d' mc' ms' maxL : Nat} {b0 : Nat} {fwd cc' : ByteArray} {y' : MethodName} {H : Heap} {P : Heap → Prop} {b : Bool} (hS : ∀ (U : State) (A : Array Value), KV g U → (∀ w ∈ lw_all, w.before A U = true) → FwB U (gL g k) fwd 2 ∧ (FwF U (gL g k) f0 0) ∧ FwC U (gL g k) ci "OfferSky$Offer" ∧ (FwV U (gL g k) mi y' 1))
    (hC : ∀ U : State, KV g U → LmC U (gL g k) xCh) (hB : ∀ U : State, KV g U → FwB U (gL g k) fwd 2) (d0 : decode fwd 0 = .ok (.aload_n 0, 1)) (d1 : decode fwd 1 = .ok (.getfield f0, 3)) (d4 : decode fwd 4 = .ok (.aload_n 1, 1)) (d5 : decode fwd 5 = .ok (.checkcast ci, 3)) (d8 : decode fwd 8 = .ok (.invokevirtual mi, 3)) (d11 : decode fwd 11 = .ok (.ireturn, 1))
    (hM : Ct l g y' cc' maxL (some .boolean) d' mc' ms' [.ref b0, .ref q0] P (PoB b)) (hV : VB y' cc' maxL (some .boolean) 1) (hmx : maxL ≤ 40) (ha : Lo g a k [.ref b0] H) {fs : List Value} (hb0 : Ob g b0 2 fs H) (hy2 : y'.cls = RX2) {fq0 : List Value} (hq0 : Ob g q0 5 fq0 H) (hP : P H) : LamRun l g xCh a [.ref q0] (d' + 1) mc' ms' H (PoB b) := by
  intro p e s m args below meth c locs cells slots mc ms d Q cc nL pc index count ls y ret rest lv X hL hl hlink hW hdg hD hc hs kk
  have hx := X.1
  obtain ⟨cl0, g0_1, g0_2, g0_3⟩ := ob_cast hq0
  refine lam_enter (As := [.ref q0]) (n := 1) (d' := d' + 1) (mc' := mc') (ms' := ms') (Po := PoB b) X hL hl hlink (by first | exact Or.inl rfl | exact Or.inr rfl) ha rfl rfl hC hB rfl (by decide +kernel) rfl hW (Nat.le_of_ble_eq_true rfl) hdg ⟨hD, by decide⟩ hc hs ?_ kk
  intro s0 below0 methk ck hb hml hws hK hret hlk hH ls0 hl0
  have hl0 : lv_has ls0 2 [(0, .ref a), (1, .ref q0)] := hl0
  have hL0 : ∀ q ∈ ([] : List Loc), gLo g ≤ q.base := fun _ h => by cases h
  have hFS := fun (U : State) (hW : s0.WarmedH U.vm) => hS U #[] (hK.1.warm hW) (fun w hw => word_at hW (lw_self w hw).2 (hws w hw))
  refine lv_aload_n hx hb d0 rfl (lv_at hl0 0 rfl) ?_
  refine w_getR hx hb (fi := f0) (sl := 0) (fun U hW => (hFS U hW).2.1) ha rfl rfl d1 ?_
  refine lv_aload_n hx hb d4 rfl (lv_at hl0 1 rfl) ?_
  refine w_castR hx hb (fun U hW => (hFS U hW).2.2.1) g0_1 g0_2 (fun U hW => g0_3 U (hK.1.warm hW)) d5 ?_
  refine w_virtR (As := [.ref q0]) hM hx hb (hl0.1.trans hml.symm) hL0 hws hK hV (fun U hW => (hFS U hW).2.2.2) (by rw [hy2]; exact hb0.recv hK.1 rfl) rfl rfl ⟨Nat.le_refl _, by omega⟩ (by omega) (by omega) hP d8 (fun r H1 locs1 hL1 hp => ?_)
  obtain ⟨rfl, hE⟩ := hp
  refine W.widen (k := mc') (n := ms') (by omega) (by omega) ?_
  exact W.zret hx hb hret (narrow_bI _) (fun t ht hW => ⟨_, rfl, rfl, by rw [ht, hH]; exact hE⟩) hL1 d11 hlk
set_option maxHeartbeats 4000000 in
theorem lam_P2V {l : Launch} {g : GT} {k f0 f1 mi ci a q0 d' mc' ms' maxL : Nat} {b0 : Nat} {b1 : Nat} {fwd cc' : ByteArray} {y' : MethodName} {H : Heap} {P : Heap → Prop} {b : Bool} (hS : ∀ (U : State) (A : Array Value), KV g U → (∀ w ∈ lw_all, w.before A U = true) → FwB U (gL g k) fwd 2 ∧ (FwF U (gL g k) f0 0 ∧ FwF U (gL g k) f1 1) ∧ FwC U (gL g k) ci "OfferSky$Offer" ∧ (FwV U (gL g k) mi y' 2))
    (hC : ∀ U : State, KV g U → LmC U (gL g k) xCh) (hB : ∀ U : State, KV g U → FwB U (gL g k) fwd 2) (d0 : decode fwd 0 = .ok (.aload_n 0, 1)) (d1 : decode fwd 1 = .ok (.getfield f0, 3)) (d4 : decode fwd 4 = .ok (.aload_n 0, 1)) (d5 : decode fwd 5 = .ok (.getfield f1, 3)) (d8 : decode fwd 8 = .ok (.aload_n 1, 1)) (d9 : decode fwd 9 = .ok (.checkcast ci, 3)) (d12 : decode fwd 12 = .ok (.invokevirtual mi, 3)) (d15 : decode fwd 15 = .ok (.ireturn, 1))
    (hM : Ct l g y' cc' maxL (some .boolean) d' mc' ms' [.ref b0, .ref b1, .ref q0] P (PoB b)) (hV : VB y' cc' maxL (some .boolean) 2) (hmx : maxL ≤ 40) (ha : Lo g a k [.ref b0, .ref b1] H) {fs : List Value} (hb0 : Ob g b0 2 fs H) (hy2 : y'.cls = RX2) {fq0 : List Value} (hq0 : Ob g q0 5 fq0 H) (hP : P H) : LamRun l g xCh a [.ref q0] (d' + 1) mc' ms' H (PoB b) := by
  intro p e s m args below meth c locs cells slots mc ms d Q cc nL pc index count ls y ret rest lv X hL hl hlink hW hdg hD hc hs kk
  have hx := X.1
  obtain ⟨cl0, g0_1, g0_2, g0_3⟩ := ob_cast hq0
  refine lam_enter (As := [.ref q0]) (n := 1) (d' := d' + 1) (mc' := mc') (ms' := ms') (Po := PoB b) X hL hl hlink (by first | exact Or.inl rfl | exact Or.inr rfl) ha rfl rfl hC hB rfl (by decide +kernel) rfl hW (Nat.le_of_ble_eq_true rfl) hdg ⟨hD, by decide⟩ hc hs ?_ kk
  intro s0 below0 methk ck hb hml hws hK hret hlk hH ls0 hl0
  have hl0 : lv_has ls0 2 [(0, .ref a), (1, .ref q0)] := hl0
  have hL0 : ∀ q ∈ ([] : List Loc), gLo g ≤ q.base := fun _ h => by cases h
  have hFS := fun (U : State) (hW : s0.WarmedH U.vm) => hS U #[] (hK.1.warm hW) (fun w hw => word_at hW (lw_self w hw).2 (hws w hw))
  refine lv_aload_n hx hb d0 rfl (lv_at hl0 0 rfl) ?_
  refine w_getR hx hb (fi := f0) (sl := 0) (fun U hW => (hFS U hW).2.1.1) ha rfl rfl d1 ?_
  refine lv_aload_n hx hb d4 rfl (lv_at hl0 0 rfl) ?_
  refine w_getR hx hb (fi := f1) (sl := 1) (fun U hW => (hFS U hW).2.1.2) ha rfl rfl d5 ?_
  refine lv_aload_n hx hb d8 rfl (lv_at hl0 1 rfl) ?_
  refine w_castR hx hb (fun U hW => (hFS U hW).2.2.1) g0_1 g0_2 (fun U hW => g0_3 U (hK.1.warm hW)) d9 ?_
  refine w_virtR (As := [.ref b1, .ref q0]) hM hx hb (hl0.1.trans hml.symm) hL0 hws hK hV (fun U hW => (hFS U hW).2.2.2) (by rw [hy2]; exact hb0.recv hK.1 rfl) rfl rfl ⟨Nat.le_refl _, by omega⟩ (by omega) (by omega) hP d12 (fun r H1 locs1 hL1 hp => ?_)
  obtain ⟨rfl, hE⟩ := hp
  refine W.widen (k := mc') (n := ms') (by omega) (by omega) ?_
  exact W.zret hx hb hret (narrow_bI _) (fun t ht hW => ⟨_, rfl, rfl, by rw [ht, hH]; exact hE⟩) hL1 d15 hlk
set_option maxHeartbeats 4000000 in
theorem lam_P3V {l : Launch} {g : GT} {k f0 f1 f2 mi ci a q0 d' mc' ms' maxL : Nat} {b0 : Nat} {b1 : Nat} {b2 : Int32} {fwd cc' : ByteArray} {y' : MethodName} {H : Heap} {P : Heap → Prop} {b : Bool} (hS : ∀ (U : State) (A : Array Value), KV g U → (∀ w ∈ lw_all, w.before A U = true) → FwB U (gL g k) fwd 2 ∧ (FwF U (gL g k) f0 0 ∧ FwF U (gL g k) f1 1 ∧ FwF U (gL g k) f2 2) ∧ FwC U (gL g k) ci "OfferSky$Offer" ∧ (FwV U (gL g k) mi y' 3))
    (hC : ∀ U : State, KV g U → LmC U (gL g k) xCh) (hB : ∀ U : State, KV g U → FwB U (gL g k) fwd 2) (d0 : decode fwd 0 = .ok (.aload_n 0, 1)) (d1 : decode fwd 1 = .ok (.getfield f0, 3)) (d4 : decode fwd 4 = .ok (.aload_n 0, 1)) (d5 : decode fwd 5 = .ok (.getfield f1, 3)) (d8 : decode fwd 8 = .ok (.aload_n 0, 1)) (d9 : decode fwd 9 = .ok (.getfield f2, 3)) (d12 : decode fwd 12 = .ok (.aload_n 1, 1)) (d13 : decode fwd 13 = .ok (.checkcast ci, 3)) (d16 : decode fwd 16 = .ok (.invokevirtual mi, 3)) (d19 : decode fwd 19 = .ok (.ireturn, 1))
    (hM : Ct l g y' cc' maxL (some .boolean) d' mc' ms' [.ref b0, .ref b1, .int b2, .ref q0] P (PoB b)) (hV : VB y' cc' maxL (some .boolean) 3) (hmx : maxL ≤ 40) (ha : Lo g a k [.ref b0, .ref b1, .int b2] H) {fs : List Value} (hb0 : Ob g b0 2 fs H) (hy2 : y'.cls = RX2) {fq0 : List Value} (hq0 : Ob g q0 5 fq0 H) (hP : P H) : LamRun l g xCh a [.ref q0] (d' + 1) mc' ms' H (PoB b) := by
  intro p e s m args below meth c locs cells slots mc ms d Q cc nL pc index count ls y ret rest lv X hL hl hlink hW hdg hD hc hs kk
  have hx := X.1
  obtain ⟨cl0, g0_1, g0_2, g0_3⟩ := ob_cast hq0
  refine lam_enter (As := [.ref q0]) (n := 1) (d' := d' + 1) (mc' := mc') (ms' := ms') (Po := PoB b) X hL hl hlink (by first | exact Or.inl rfl | exact Or.inr rfl) ha rfl rfl hC hB rfl (by decide +kernel) rfl hW (Nat.le_of_ble_eq_true rfl) hdg ⟨hD, by decide⟩ hc hs ?_ kk
  intro s0 below0 methk ck hb hml hws hK hret hlk hH ls0 hl0
  have hl0 : lv_has ls0 2 [(0, .ref a), (1, .ref q0)] := hl0
  have hL0 : ∀ q ∈ ([] : List Loc), gLo g ≤ q.base := fun _ h => by cases h
  have hFS := fun (U : State) (hW : s0.WarmedH U.vm) => hS U #[] (hK.1.warm hW) (fun w hw => word_at hW (lw_self w hw).2 (hws w hw))
  refine lv_aload_n hx hb d0 rfl (lv_at hl0 0 rfl) ?_
  refine w_getR hx hb (fi := f0) (sl := 0) (fun U hW => (hFS U hW).2.1.1) ha rfl rfl d1 ?_
  refine lv_aload_n hx hb d4 rfl (lv_at hl0 0 rfl) ?_
  refine w_getR hx hb (fi := f1) (sl := 1) (fun U hW => (hFS U hW).2.1.2.1) ha rfl rfl d5 ?_
  refine lv_aload_n hx hb d8 rfl (lv_at hl0 0 rfl) ?_
  refine w_getR hx hb (fi := f2) (sl := 2) (fun U hW => (hFS U hW).2.1.2.2) ha rfl rfl d9 ?_
  refine lv_aload_n hx hb d12 rfl (lv_at hl0 1 rfl) ?_
  refine w_castR hx hb (fun U hW => (hFS U hW).2.2.1) g0_1 g0_2 (fun U hW => g0_3 U (hK.1.warm hW)) d13 ?_
  refine w_virtR (As := [.ref b1, .int b2, .ref q0]) hM hx hb (hl0.1.trans hml.symm) hL0 hws hK hV (fun U hW => (hFS U hW).2.2.2) (by rw [hy2]; exact hb0.recv hK.1 rfl) rfl rfl ⟨Nat.le_refl _, by omega⟩ (by omega) (by omega) hP d16 (fun r H1 locs1 hL1 hp => ?_)
  obtain ⟨rfl, hE⟩ := hp
  refine W.widen (k := mc') (n := ms') (by omega) (by omega) ?_
  exact W.zret hx hb hret (narrow_bI _) (fun t ht hW => ⟨_, rfl, rfl, by rw [ht, hH]; exact hE⟩) hL1 d19 hlk
set_option maxHeartbeats 4000000 in
theorem lam_O1V {l : Launch} {g : GT} {k f0 mi ci a q0 q1 d' mc' ms' maxL : Nat} {b0 : Nat} {fwd cc' : ByteArray} {y' : MethodName} {H : Heap} {P : Heap → Prop} {b : Bool} (hS : ∀ (U : State) (A : Array Value), KV g U → (∀ w ∈ lw_all, w.before A U = true) → FwB U (gL g k) fwd 3 ∧ (FwF U (gL g k) f0 0) ∧ FwC U (gL g k) ci "OfferSky$Offer" ∧ (FwV U (gL g k) mi y' 2))
    (hC : ∀ U : State, KV g U → LmC U (gL g k) xOr) (hB : ∀ U : State, KV g U → FwB U (gL g k) fwd 3) (d0 : decode fwd 0 = .ok (.aload_n 0, 1)) (d1 : decode fwd 1 = .ok (.getfield f0, 3)) (d4 : decode fwd 4 = .ok (.aload_n 1, 1)) (d5 : decode fwd 5 = .ok (.checkcast ci, 3)) (d8 : decode fwd 8 = .ok (.aload_n 2, 1)) (d9 : decode fwd 9 = .ok (.checkcast ci, 3)) (d12 : decode fwd 12 = .ok (.invokevirtual mi, 3)) (d15 : decode fwd 15 = .ok (.ireturn, 1))
    (hM : Ct l g y' cc' maxL (some .boolean) d' mc' ms' [.ref b0, .ref q0, .ref q1] P (PoB b)) (hV : VB y' cc' maxL (some .boolean) 2) (hmx : maxL ≤ 40) (ha : Lo g a k [.ref b0] H) {fs : List Value} (hb0 : Ob g b0 2 fs H) (hy2 : y'.cls = RX2) {fq0 : List Value} (hq0 : Ob g q0 5 fq0 H) {fq1 : List Value} (hq1 : Ob g q1 5 fq1 H) (hP : P H) : LamRun l g xOr a [.ref q0, .ref q1] (d' + 1) mc' ms' H (PoB b) := by
  intro p e s m args below meth c locs cells slots mc ms d Q cc nL pc index count ls y ret rest lv X hL hl hlink hW hdg hD hc hs kk
  have hx := X.1
  obtain ⟨cl0, g0_1, g0_2, g0_3⟩ := ob_cast hq0
  obtain ⟨cl1, g1_1, g1_2, g1_3⟩ := ob_cast hq1
  refine lam_enter (As := [.ref q0, .ref q1]) (n := 2) (d' := d' + 1) (mc' := mc') (ms' := ms') (Po := PoB b) X hL hl hlink (by first | exact Or.inl rfl | exact Or.inr rfl) ha rfl rfl hC hB rfl (by decide +kernel) rfl hW (Nat.le_of_ble_eq_true rfl) hdg ⟨hD, by decide⟩ hc hs ?_ kk
  intro s0 below0 methk ck hb hml hws hK hret hlk hH ls0 hl0
  have hl0 : lv_has ls0 3 [(0, .ref a), (1, .ref q0), (2, .ref q1)] := hl0
  have hL0 : ∀ q ∈ ([] : List Loc), gLo g ≤ q.base := fun _ h => by cases h
  have hFS := fun (U : State) (hW : s0.WarmedH U.vm) => hS U #[] (hK.1.warm hW) (fun w hw => word_at hW (lw_self w hw).2 (hws w hw))
  refine lv_aload_n hx hb d0 rfl (lv_at hl0 0 rfl) ?_
  refine w_getR hx hb (fi := f0) (sl := 0) (fun U hW => (hFS U hW).2.1) ha rfl rfl d1 ?_
  refine lv_aload_n hx hb d4 rfl (lv_at hl0 1 rfl) ?_
  refine w_castR hx hb (fun U hW => (hFS U hW).2.2.1) g0_1 g0_2 (fun U hW => g0_3 U (hK.1.warm hW)) d5 ?_
  refine lv_aload_n hx hb d8 rfl (lv_at hl0 2 rfl) ?_
  refine w_castR hx hb (fun U hW => (hFS U hW).2.2.1) g1_1 g1_2 (fun U hW => g1_3 U (hK.1.warm hW)) d9 ?_
  refine w_virtR (As := [.ref q0, .ref q1]) hM hx hb (hl0.1.trans hml.symm) hL0 hws hK hV (fun U hW => (hFS U hW).2.2.2) (by rw [hy2]; exact hb0.recv hK.1 rfl) rfl rfl ⟨Nat.le_refl _, by omega⟩ (by omega) (by omega) hP d12 (fun r H1 locs1 hL1 hp => ?_)
  obtain ⟨rfl, hE⟩ := hp
  refine W.widen (k := mc') (n := ms') (by omega) (by omega) ?_
  exact W.zret hx hb hret (narrow_bI _) (fun t ht hW => ⟨_, rfl, rfl, by rw [ht, hH]; exact hE⟩) hL1 d15 hlk
set_option maxHeartbeats 4000000 in
theorem lam_P1S {l : Launch} {g : GT} {k f0 mi ci a q0 d' mc' ms' maxL : Nat} {b0 : Nat} {fwd cc' : ByteArray} {y' : MethodName} {H : Heap} {P : Heap → Prop} {b : Bool} (hS : ∀ (U : State) (A : Array Value), KV g U → (∀ w ∈ lw_all, w.before A U = true) → FwB U (gL g k) fwd 2 ∧ (FwF U (gL g k) f0 0) ∧ FwC U (gL g k) ci "OfferSky$Offer" ∧ (∀ e : Env, FwS e U (gL g k) mi y' 2))
    (hC : ∀ U : State, KV g U → LmC U (gL g k) xCh) (hB : ∀ U : State, KV g U → FwB U (gL g k) fwd 2) (d0 : decode fwd 0 = .ok (.aload_n 0, 1)) (d1 : decode fwd 1 = .ok (.getfield f0, 3)) (d4 : decode fwd 4 = .ok (.aload_n 1, 1)) (d5 : decode fwd 5 = .ok (.checkcast ci, 3)) (d8 : decode fwd 8 = .ok (.invokestatic mi, 3)) (d11 : decode fwd 11 = .ok (.ireturn, 1))
    (hM : Ct l g y' cc' maxL (some .boolean) d' mc' ms' [.ref b0, .ref q0] P (PoB b)) (hV : SB y' cc' maxL (some .boolean) 2) (hmx : maxL ≤ 40) (ha : Lo g a k [.ref b0] H) {fq0 : List Value} (hq0 : Ob g q0 5 fq0 H) (hP : P H) : LamRun l g xCh a [.ref q0] (d' + 1) mc' ms' H (PoB b) := by
  intro p e s m args below meth c locs cells slots mc ms d Q cc nL pc index count ls y ret rest lv X hL hl hlink hW hdg hD hc hs kk
  have hx := X.1
  obtain ⟨cl0, g0_1, g0_2, g0_3⟩ := ob_cast hq0
  refine lam_enter (As := [.ref q0]) (n := 1) (d' := d' + 1) (mc' := mc') (ms' := ms') (Po := PoB b) X hL hl hlink (by first | exact Or.inl rfl | exact Or.inr rfl) ha rfl rfl hC hB rfl (by decide +kernel) rfl hW (Nat.le_of_ble_eq_true rfl) hdg ⟨hD, by decide⟩ hc hs ?_ kk
  intro s0 below0 methk ck hb hml hws hK hret hlk hH ls0 hl0
  have hl0 : lv_has ls0 2 [(0, .ref a), (1, .ref q0)] := hl0
  have hL0 : ∀ q ∈ ([] : List Loc), gLo g ≤ q.base := fun _ h => by cases h
  have hFS := fun (U : State) (hW : s0.WarmedH U.vm) => hS U #[] (hK.1.warm hW) (fun w hw => word_at hW (lw_self w hw).2 (hws w hw))
  refine lv_aload_n hx hb d0 rfl (lv_at hl0 0 rfl) ?_
  refine w_getR hx hb (fi := f0) (sl := 0) (fun U hW => (hFS U hW).2.1) ha rfl rfl d1 ?_
  refine lv_aload_n hx hb d4 rfl (lv_at hl0 1 rfl) ?_
  refine w_castR hx hb (fun U hW => (hFS U hW).2.2.1) g0_1 g0_2 (fun U hW => g0_3 U (hK.1.warm hW)) d5 ?_
  refine w_statR (As := [.ref b0, .ref q0]) hM hx hb (hl0.1.trans hml.symm) hL0 hws hK hV (fun U hW => (hFS U hW).2.2.2 e) rfl rfl ⟨Nat.le_refl _, by omega⟩ (by omega) (by omega) hP d8 (fun r H1 locs1 hL1 hp => ?_)
  obtain ⟨rfl, hE⟩ := hp
  refine W.widen (k := mc') (n := ms') (by omega) (by omega) ?_
  exact W.zret hx hb hret (narrow_bI _) (fun t ht hW => ⟨_, rfl, rfl, by rw [ht, hH]; exact hE⟩) hL1 d11 hlk
