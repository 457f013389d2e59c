/-! a state, an offer, a bag, as queries see them -/
def OfQ (g : GT) (f : Nat → Int32) (q : Nat) (H : Heap) : Prop := ∃ I, OffR g I f q H
theorem OfQ.ext {g : GT} {f : Nat → Int32} {q : Nat} {H H1 : Heap} (h : OfQ g f q H) (e : Ext H H1) : OfQ g f q H1 := by
  obtain ⟨I, h⟩ := h; exact ⟨I, h.ext e⟩
theorem OfQ.ob {g : GT} {f : Nat → Int32} {q : Nat} {H : Heap} (h : OfQ g f q H) : ∃ fs, Ob g q 5 fs H := by
  obtain ⟨I, v, -, -, -, -, o, -⟩ := h; exact ⟨_, o⟩
theorem OfQ.lt {g : GT} {f : Nat → Int32} {q : Nat} {H : Heap} (h : OfQ g f q H) : q < H.size := by
  obtain ⟨fs, o⟩ := h.ob; exact o.lt
def SdQ (g : GT) (ro : Nat → Int32) (a : Nat) (H : Heap) : Prop := ∃ (b sd : Nat) (PS : Nat → Prop) (v1 v2 : Value), Ob g a 2 [.ref b, .ref sd, v1, v2] H ∧ SidR g PS ro sd H
theorem SdQ.ext {g : GT} {ro : Nat → Int32} {a : Nat} {H H1 : Heap} (h : SdQ g ro a H) (e : Ext H H1) : SdQ g ro a H1 := by
  obtain ⟨b, sd, PS, v1, v2, o, h⟩ := h; exact ⟨b, sd, PS, v1, v2, o.ext e, h.ext e⟩
theorem SdQ.ob {g : GT} {ro : Nat → Int32} {a : Nat} {H : Heap} (h : SdQ g ro a H) : ∃ fs, Ob g a 2 fs H := by
  obtain ⟨b, sd, PS, v1, v2, o, -⟩ := h; exact ⟨_, o⟩
theorem SidR.recv {g : GT} {s : State} {P : Nat → Prop} {ro : Nat → Int32} {a : Nat} {H : Heap} (h : SidR g P ro a H) (hK : KV g s) : ∃ cellB : Cell, H[a]? = some cellB ∧ cellB.vm.isStatics = false ∧ s.vm.findClass RX4 = some cellB.cls := by
  obtain ⟨a1, a2, a3, a4, o, -⟩ := rds h; exact o.recv hK rfl
theorem SdQ.recv {g : GT} {s : State} {ro : Nat → Int32} {a : Nat} {H : Heap} (h : SdQ g ro a H) (hK : KV g s) : ∃ cellB : Cell, H[a]? = some cellB ∧ cellB.vm.isStatics = false ∧ s.vm.findClass RX2 = some cellB.cls := by
  obtain ⟨fs, o⟩ := h.ob; exact o.recv hK rfl
def BgQ (g : GT) (x : Nat → Nat) (L : List Nat) (b : Nat) (H : Heap) : Prop := ∃ P, BagR g P (XL x L) L.length b H
theorem BgQ.ext {g : GT} {x : Nat → Nat} {L : List Nat} {b : Nat} {H H1 : Heap} (h : BgQ g x L b H) (e : Ext H H1) : BgQ g x L b H1 := by
  obtain ⟨P, h⟩ := h; exact ⟨P, h.ext e⟩
theorem BgQ.recv {g : GT} {s : State} {x : Nat → Nat} {L : List Nat} {b : Nat} {H : Heap} (h : BgQ g x L b H) (hK : KV g s) : ∃ cellB : Cell, H[b]? = some cellB ∧ cellB.vm.isStatics = false ∧ s.vm.findClass RX3 = some cellB.cls := by
  obtain ⟨P, h⟩ := h; exact h.recv hK
/-- the offers of a list, with the values of the row -/
def OfL (g : GT) (ro : Nat → Int32) (x : Nat → Nat) (L : List Nat) (H : Heap) : Prop := ∀ i, i ∈ L → OfQ g (mv ro i) (x i) H
theorem OfL.ext {g : GT} {ro : Nat → Int32} {x : Nat → Nat} {L : List Nat} {H H1 : Heap} (h : OfL g ro x L H) (e : Ext H H1) : OfL g ro x L H1 := fun i hi => (h i hi).ext e
theorem OfL.sub {g : GT} {ro : Nat → Int32} {x : Nat → Nat} {L F : List Nat} {H : Heap} (h : OfL g ro x L H) (e : ∀ i, i ∈ F → i ∈ L) : OfL g ro x F H := fun i hi => h i (e i hi)
theorem OfL.el {g : GT} {ro : Nat → Int32} {x : Nat → Nat} {L : List Nat} {H : Heap} (h : OfL g ro x L H) : ElO g x L H := fun i hi => (h i hi).ob
def StQ (g : GT) (ro : Nat → Int32) (n : Nat) (x : Nat → Nat) (a : Nat) (H : Heap) : Prop := ∃ (b sd : Nat) (PB PS : Nat → Prop), Ob g a 2 [.ref b, .ref sd, .int (ro 177), .int (ro 178)] H ∧ BagR g PB (XL x (List.range n)) (List.range n).length b H ∧ SidR g PS ro sd H ∧ OfL g ro x (List.range n) H ∧ (∀ i j, i < n → j < n → x i = x j → i = j)
theorem StQ.ext {g : GT} {ro : Nat → Int32} {n : Nat} {x : Nat → Nat} {a : Nat} {H H1 : Heap} (h : StQ g ro n x a H) (e : Ext H H1) : StQ g ro n x a H1 := by
  obtain ⟨b, sd, PB, PS, o, h1, h2, h3, h4⟩ := h; exact ⟨b, sd, PB, PS, o.ext e, h1.ext e, h2.ext e, h3.ext e, h4⟩
theorem StQ.sd {g : GT} {ro : Nat → Int32} {n : Nat} {x : Nat → Nat} {a : Nat} {H : Heap} (h : StQ g ro n x a H) : SdQ g ro a H := by
  obtain ⟨b, sd, PB, PS, o, h1, h2, h3⟩ := h; exact ⟨b, sd, PS, _, _, o, h2⟩
theorem StQ.of {g : GT} {ro : Nat → Int32} {n : Nat} {x : Nat → Nat} {a : Nat} {H : Heap} (h : StQ g ro n x a H) : OfL g ro x (List.range n) H := by
  obtain ⟨b, sd, PB, PS, o, h1, h2, h3, h4⟩ := h; exact h3
theorem StQ.recv {g : GT} {s : State} {ro : Nat → Int32} {n : Nat} {x : Nat → Nat} {a : Nat} {H : Heap} (h : StQ g ro n x a H) (hK : KV g s) : ∃ cellB : Cell, H[a]? = some cellB ∧ cellB.vm.isStatics = false ∧ s.vm.findClass RX2 = some cellB.cls := h.sd.recv hK
theorem act_in {ro : Nat → Int32} {n i : Nat} (h : i ∈ actL ro n) : i ∈ List.range n := (List.mem_filter.mp h).1
theorem tol_in {ro : Nat → Int32} {t : Int32} {L : List Nat} {i : Nat} (h : i ∈ tolL ro t L) : i ∈ L := (List.mem_filter.mp h).1
theorem btV_s {ro : Nat → Int32} {t : Int32} {L : List Nat} {v : Nat → Int32} {k : Nat} (h : k < L.length) : btV ro t (L.take (k + 1)) v = (btV ro t (L.take k) v || beyB (mw ro) (mv ro (L.getD k 0)) v (swB (mw ro) t)) := anyP_s h
theorem rng_len (n : Nat) : (List.range n).length = n := List.length_range
theorem rng_get {n k : Nat} (h : k < n) : (List.range n).getD k 0 = k := by
  rw [getD_at (by rw [List.length_range]; exact h), List.getElem_range]
theorem rng_mem {n k : Nat} (h : k < n) : k ∈ List.range n := List.mem_range.mpr h

set_option maxRecDepth 100000 in
set_option maxHeartbeats 4000000 in
theorem ct_X2_isBeaten (l : Launch) (g : GT) (ro : Nat → Int32) (a : Nat) (f : Nat → Int32) (q : Nat) (x : Nat → Nat) (L : List Nat) (b : Nat) (t : Int32) (hw : WO (mw ro)) (hLn : L.length ≤ 40) : Ct l g yX2_isBeaten cX2_isBeaten 6 (some .boolean) 6 0 0 [.ref a, .ref q, .ref b, .int t] (fun H => SdQ g ro a H ∧ OfQ g f q H ∧ BgQ g x L b H ∧ OfL g ro x L H) (fun r H H1 => r = some (.int (bI (btV ro t L f))) ∧ H1 = H) := by
  refine Ct.of (by decide) (Nat.le_of_ble_eq_true rfl) ?_
  intro p e s m args below meth c X hP ls hl
  have hx := X.1
  have hb := X.2.1
  have hKV := X.2.2.2.2.2.2.2.1.1
  have hL : ∀ q ∈ ([] : List Loc), gLo g ≤ q.base := fun _ h => by cases h
  obtain ⟨hs, ⟨I, hq⟩, ⟨PB, hbg⟩, ho⟩ := hP
  obtain ⟨sb, sd, PS, v1, v2, ob, hsd⟩ := hs
  have hl : lv_has ls 6 [(0, .ref a), (1, .ref q), (2, .ref b), (3, .int t)] := hl
  refine lv_iconst (v := nI 0) hx hb dX2_isBeaten_0 (by decide) ?_
  refine lv_istore (lv' := [(4, .int _), (0, .ref _), (1, .ref _), (2, .ref _), (3, .int _)]) hx hb dX2_isBeaten_1 hl (by decide) rfl (fun ls hl => ?_)
  refine lv_iconst (v := nI 0) hx hb dX2_isBeaten_3 (by decide) ?_
  refine lv_istore (lv' := [(5, .int _), (4, .int _), (0, .ref _), (1, .ref _), (2, .ref _), (3, .int _)]) hx hb dX2_isBeaten_4 hl (by decide) rfl (fun ls hl => ?_)
  have L6 : ∀ (fuel : Nat) (k : Nat), L.length - k < fuel → (k ≤ L.length) → ∀ (locs : List Loc), (∀ q ∈ locs, gLo g ≤ q.base) → ∀ (ls : Array Slot), lv_has ls 6 [(0, .ref a), (1, .ref q), (2, .ref b), (3, .int t), (4, .int (bI (btV ro t (L.take k) f))), (5, .int (nI k))] → W p l e (rmL 6 0 0) s m args below meth c s.heap locs 0 0 (MQ below (Qcg (fun r H H1 => r = some (.int (bI (btV ro t L f))) ∧ H1 = H)) args s 0 0 (fre g)) (F0 m 6 ls []) := by
    intro fuel
    induction fuel with
    | zero => intro k hfu; exact absurd hfu (Nat.not_lt_zero _)
    | succ fuel ih6 =>
      intro k hfu hk  locs hL ls hl
      refine lv_iload hx hb dX2_isBeaten_6 (lv_at hl 5 rfl) ?_
      refine lv_aload_n hx hb dX2_isBeaten_8 rfl (lv_at hl 2 rfl) ?_
      refine Cp.callV (v := .int (nI L.length)) (ct_X3_size l g PB (XL x L) L.length b ) X hL hl vb_X3_size q564 (hbg.recv hKV) rfl rfl (Nat.le_of_ble_eq_true rfl) dX2_isBeaten_9 ⟨Nat.le_of_ble_eq_true rfl, Nat.le_of_ble_eq_true rfl⟩ (by omega) (by omega) hbg (fun locs hL => ?_)
      refine n_icmp_ge (tgt := 44) X dX2_isBeaten_12 (by decide) (by omega) (by omega) (fun c_12 => ?_) (fun c_12 => ?_)
      ·
        refine lv_iload hx hb dX2_isBeaten_44 (lv_at hl 4 rfl) ?_
        exact r_iret X hL rfl (narrow_bI _) dX2_isBeaten_46 (by omega) (by omega) ⟨by have e4 : k = L.length := (by omega); subst e4; rw [List.take_length], rfl⟩
      ·
        refine lv_iload hx hb dX2_isBeaten_15 (lv_at hl 4 rfl) ?_
        refine lv_aload_n hx hb dX2_isBeaten_17 rfl (lv_at hl 0 rfl) ?_
        refine r_get (C := RX2) (T := TX2) (N := 4) (ci := 2) X in_X2 rfl 1 (Nat.le_of_ble_eq_true rfl) q212 (fun _ h => h) ob rfl dX2_isBeaten_18 ?_
        refine lv_aload_n hx hb dX2_isBeaten_21 rfl (lv_at hl 2 rfl) ?_
        refine lv_iload hx hb dX2_isBeaten_22 (lv_at hl 5 rfl) ?_
        refine Cp.callV (v := .ref (x (L.getD k 0))) (ct_X3_get l g PB (XL x L) L.length b k (by omega)) X hL hl vb_X3_get q568 (hbg.recv hKV) rfl rfl (Nat.le_of_ble_eq_true rfl) dX2_isBeaten_24 ⟨Nat.le_of_ble_eq_true rfl, Nat.le_of_ble_eq_true rfl⟩ (by omega) (by omega) hbg (fun locs hL => ?_)
        obtain ⟨I2, hq2⟩ := ho _ (getD_mem (L := L) (k := k) (by omega))
        obtain ⟨fq2, oq2⟩ := OfQ.ob ⟨I2, hq2⟩
        refine r_cast (ci := 5) X rfl oq2 q572 dX2_isBeaten_27 ?_
        refine lv_aload_n hx hb dX2_isBeaten_30 rfl (lv_at hl 1 rfl) ?_
        refine lv_iload_n hx hb dX2_isBeaten_31 rfl (lv_at hl 3 rfl) ?_
        refine Cp.callV (v := .int (bI (beyB (mw ro) (mv ro (L.getD k 0)) f (swB (mw ro) t)))) (ct_X4_isAbove l g PS ro sd I2 (mv ro (L.getD k 0)) (x (L.getD k 0)) I f q t hw) X hL hl vb_X4_isAbove q573 (hsd.recv hKV) rfl rfl (Nat.le_of_ble_eq_true rfl) dX2_isBeaten_32 ⟨Nat.le_of_ble_eq_true rfl, Nat.le_of_ble_eq_true rfl⟩ (by omega) (by omega) ⟨hsd, hq2, hq⟩ (fun locs hL => ?_)
        refine lv_ior hx hb dX2_isBeaten_35 ?_
        refine W.stk (w := (bI (btV ro t (L.take (k + 1)) f))) (by rw [btV_s (by omega), bI_or]) ?_
        refine lv_istore (lv' := [(4, .int _), (0, .ref _), (1, .ref _), (2, .ref _), (3, .int _), (5, .int _)]) hx hb dX2_isBeaten_36 hl (by decide) rfl (fun ls hl => ?_)
        refine lv_iinc (v := nI (k + 1)) (lv' := [(5, .int _), (4, .int _), (0, .ref _), (1, .ref _), (2, .ref _), (3, .int _)]) hx hb dX2_isBeaten_38 hl (k := 5) rfl (nI_iinc _ 1 rfl) (by decide) rfl (fun ls hl => ?_)
        refine lv_goto (tgt := 6) hx hb dX2_isBeaten_41 (by decide) ?_
        exact ih6 (k + 1) (by omega) (by omega) _ hL ls (lv_sub hl [2, 3, 4, 5, 1, 0] rfl)
  exact L6 (L.length + 1) 0 (by omega) (by omega) _ hL ls (lv_sub hl [2, 3, 4, 5, 1, 0] rfl)
theorem vb_X2_isBeaten : VB yX2_isBeaten cX2_isBeaten 6 (some .boolean) 3 := ⟨q561, q562, q100, q563, ⟨by decide, by decide, by decide +kernel⟩⟩

set_option maxRecDepth 100000 in
set_option maxHeartbeats 4000000 in
theorem ct_X2_isToldOn (l : Launch) (g : GT) (ro : Nat → Int32) (a : Nat) (f : Nat → Int32) (q : Nat) (x : Nat → Nat) (L : List Nat) (b : Nat) (t : Int32) (hw : WO (mw ro)) (hLn : L.length ≤ 40) : Ct l g yX2_isToldOn cX2_isToldOn 4 (some .boolean) 7 0 0 [.ref a, .ref q, .ref b, .int t] (fun H => SdQ g ro a H ∧ OfQ g f q H ∧ BgQ g x L b H ∧ OfL g ro x L H) (fun r H H1 => r = some (.int (bI (!btV ro t L f))) ∧ H1 = H) := by
  refine Ct.of (by decide) (Nat.le_of_ble_eq_true rfl) ?_
  intro p e s m args below meth c X hP ls hl
  have hx := X.1
  have hb := X.2.1
  have hKV := X.2.2.2.2.2.2.2.1.1
  have hL : ∀ q ∈ ([] : List Loc), gLo g ≤ q.base := fun _ h => by cases h
  have hs0 := hP.1
  have hl : lv_has ls 4 [(0, .ref a), (1, .ref q), (2, .ref b), (3, .int t)] := hl
  refine lv_aload_n hx hb dX2_isToldOn_0 rfl (lv_at hl 0 rfl) ?_
  refine lv_aload_n hx hb dX2_isToldOn_1 rfl (lv_at hl 1 rfl) ?_
  refine lv_aload_n hx hb dX2_isToldOn_2 rfl (lv_at hl 2 rfl) ?_
  refine lv_iload_n hx hb dX2_isToldOn_3 rfl (lv_at hl 3 rfl) ?_
  refine Cp.callV (v := .int (bI (btV ro t L f))) (ct_X2_isBeaten l g ro a f q x L b t hw hLn) X hL hl vb_X2_isBeaten q560 (hs0.recv hKV) rfl rfl (Nat.le_of_ble_eq_true rfl) dX2_isToldOn_4 ⟨Nat.le_of_ble_eq_true rfl, Nat.le_of_ble_eq_true rfl⟩ (by omega) (by omega) hP (fun locs hL => ?_)
  refine b_ifne (tgt := 14) X dX2_isToldOn_7 (by decide) (fun c_7 => ?_) (fun c_7 => ?_)
  ·
    refine lv_iconst (v := nI 0) hx hb dX2_isToldOn_14 (by decide) ?_
    exact r_iret X hL rfl rfl dX2_isToldOn_15 (by omega) (by omega) ⟨v_f (by rw [c_7]; rfl), rfl⟩
  ·
    refine lv_iconst (v := nI 1) hx hb dX2_isToldOn_10 (by decide) ?_
    refine lv_goto (tgt := 15) hx hb dX2_isToldOn_11 (by decide) ?_
    exact r_iret X hL rfl rfl dX2_isToldOn_15 (by omega) (by omega) ⟨v_t (by rw [c_7]; rfl), rfl⟩
theorem vb_X2_isToldOn : VB yX2_isToldOn cX2_isToldOn 4 (some .boolean) 3 := ⟨q1216, qs35, q100, q1217, ⟨by decide, by decide, by decide +kernel⟩⟩

set_option maxRecDepth 100000 in
set_option maxHeartbeats 4000000 in
theorem ct_X2_lambda_active_2 (l : Launch) (g : GT) (ro : Nat → Int32) (a : Nat) (f : Nat → Int32) (q : Nat)  : Ct l g yX2_lambda_active_2 cX2_lambda_active_2 2 (some .boolean) 8 0 0 [.ref a, .ref q] (fun H => SdQ g ro a H ∧ OfQ g f q H) (PoB (couB (mle ro) (mgr ro) f)) := by
  refine Ct.of (by decide) (Nat.le_of_ble_eq_true rfl) ?_
  intro p e s m args below meth c X hP ls hl
  have hx := X.1
  have hb := X.2.1
  have hKV := X.2.2.2.2.2.2.2.1.1
  have hL : ∀ q ∈ ([] : List Loc), gLo g ≤ q.base := fun _ h => by cases h
  obtain ⟨hs, I1, hq⟩ := hP
  obtain ⟨sb, sd, PS, v1, v2, ob, hsd⟩ := hs
  have hl : lv_has ls 2 [(0, .ref a), (1, .ref q)] := hl
  refine lv_aload_n hx hb dX2_lambda_active_2_0 rfl (lv_at hl 0 rfl) ?_
  refine r_get (C := RX2) (T := TX2) (N := 4) (ci := 2) X in_X2 rfl 1 (Nat.le_of_ble_eq_true rfl) q212 (fun _ h => h) ob rfl dX2_lambda_active_2_1 ?_
  refine lv_aload_n hx hb dX2_lambda_active_2_4 rfl (lv_at hl 1 rfl) ?_
  refine Cp.callV (v := .int (bI (couB (mle ro) (mgr ro) f))) (ct_X4_counts l g PS ro sd I1 f q ) X hL hl vb_X4_counts q534 (hsd.recv hKV) rfl rfl (Nat.le_of_ble_eq_true rfl) dX2_lambda_active_2_5 ⟨Nat.le_of_ble_eq_true rfl, Nat.le_of_ble_eq_true rfl⟩ (by omega) (by omega) ⟨hsd, hq⟩ (fun locs hL => ?_)
  exact r_iret X hL rfl (narrow_bI _) dX2_lambda_active_2_8 (by omega) (by omega) ⟨rfl, Ext.rfl'⟩
theorem vb_X2_lambda_active_2 : VB yX2_lambda_active_2 cX2_lambda_active_2 2 (some .boolean) 1 := ⟨q532, qs7, q100, q533, ⟨by decide, by decide, by decide +kernel⟩⟩

set_option maxRecDepth 100000 in
set_option maxHeartbeats 4000000 in
theorem ct_X2_lambda_window_6 (l : Launch) (g : GT) (ro : Nat → Int32) (a : Nat) (f1 : Nat → Int32) (q1 : Nat) (f2 : Nat → Int32) (q2 : Nat) (hw : WO (mw ro)) : Ct l g yX2_lambda_window_6 cX2_lambda_window_6 3 (some .boolean) 8 0 0 [.ref a, .ref q1, .ref q2] (fun H => SdQ g ro a H ∧ OfQ g f1 q1 H ∧ OfQ g f2 q2 H) (PoB (beyB (mw ro) f1 f2 (swB (mw ro) (nI 15)))) := by
  refine Ct.of (by decide) (Nat.le_of_ble_eq_true rfl) ?_
  intro p e s m args below meth c X hP ls hl
  have hx := X.1
  have hb := X.2.1
  have hKV := X.2.2.2.2.2.2.2.1.1
  have hL : ∀ q ∈ ([] : List Loc), gLo g ≤ q.base := fun _ h => by cases h
  obtain ⟨hs, ⟨I1, hq1⟩, ⟨I2, hq2⟩⟩ := hP
  obtain ⟨sb, sd, PS, v1, v2, ob, hsd⟩ := hs
  have hl : lv_has ls 3 [(0, .ref a), (1, .ref q1), (2, .ref q2)] := hl
  refine lv_aload_n hx hb dX2_lambda_window_6_0 rfl (lv_at hl 0 rfl) ?_
  refine r_get (C := RX2) (T := TX2) (N := 4) (ci := 2) X in_X2 rfl 1 (Nat.le_of_ble_eq_true rfl) q212 (fun _ h => h) ob rfl dX2_lambda_window_6_1 ?_
  refine lv_aload_n hx hb dX2_lambda_window_6_4 rfl (lv_at hl 1 rfl) ?_
  refine lv_aload_n hx hb dX2_lambda_window_6_5 rfl (lv_at hl 2 rfl) ?_
  refine lv_bipush (v := nI 15) hx hb dX2_lambda_window_6_6 (by decide) ?_
  refine Cp.callV (v := .int (bI (beyB (mw ro) f1 f2 (swB (mw ro) (nI 15))))) (ct_X4_isAbove l g PS ro sd I1 f1 q1 I2 f2 q2 (nI 15) hw) X hL hl vb_X4_isAbove q573 (hsd.recv hKV) rfl rfl (Nat.le_of_ble_eq_true rfl) dX2_lambda_window_6_8 ⟨Nat.le_of_ble_eq_true rfl, Nat.le_of_ble_eq_true rfl⟩ (by omega) (by omega) ⟨hsd, hq1, hq2⟩ (fun locs hL => ?_)
  exact r_iret X hL rfl (narrow_bI _) dX2_lambda_window_6_11 (by omega) (by omega) ⟨rfl, Ext.rfl'⟩
theorem vb_X2_lambda_window_6 : VB yX2_lambda_window_6 cX2_lambda_window_6 3 (some .boolean) 2 := ⟨q1162, qs29, q100, q1163, ⟨by decide, by decide, by decide +kernel⟩⟩

set_option maxRecDepth 100000 in
set_option maxHeartbeats 4000000 in
theorem ct_X2_lambda_wouldFall_13 (l : Launch) (g : GT) (ro : Nat → Int32) (a : Nat) (f1 : Nat → Int32) (q1 : Nat) (f2 : Nat → Int32) (q2 : Nat) (hw : WO (mw ro)) : Ct l g yX2_lambda_wouldFall_13 cX2_lambda_wouldFall_13 3 (some .boolean) 8 0 0 [.ref a, .ref q1, .ref q2] (fun H => SdQ g ro a H ∧ OfQ g f1 q1 H ∧ OfQ g f2 q2 H) (PoB (beyB (mw ro) f1 f2 (swB (mw ro) (nI 15)))) := by
  refine Ct.of (by decide) (Nat.le_of_ble_eq_true rfl) ?_
  intro p e s m args below meth c X hP ls hl
  have hx := X.1
  have hb := X.2.1
  have hKV := X.2.2.2.2.2.2.2.1.1
  have hL : ∀ q ∈ ([] : List Loc), gLo g ≤ q.base := fun _ h => by cases h
  obtain ⟨hs, ⟨I1, hq1⟩, ⟨I2, hq2⟩⟩ := hP
  obtain ⟨sb, sd, PS, v1, v2, ob, hsd⟩ := hs
  have hl : lv_has ls 3 [(0, .ref a), (1, .ref q1), (2, .ref q2)] := hl
  refine lv_aload_n hx hb dX2_lambda_wouldFall_13_0 rfl (lv_at hl 0 rfl) ?_
  refine r_get (C := RX2) (T := TX2) (N := 4) (ci := 2) X in_X2 rfl 1 (Nat.le_of_ble_eq_true rfl) q212 (fun _ h => h) ob rfl dX2_lambda_wouldFall_13_1 ?_
  refine lv_aload_n hx hb dX2_lambda_wouldFall_13_4 rfl (lv_at hl 1 rfl) ?_
  refine lv_aload_n hx hb dX2_lambda_wouldFall_13_5 rfl (lv_at hl 2 rfl) ?_
  refine lv_bipush (v := nI 15) hx hb dX2_lambda_wouldFall_13_6 (by decide) ?_
  refine Cp.callV (v := .int (bI (beyB (mw ro) f1 f2 (swB (mw ro) (nI 15))))) (ct_X4_isAbove l g PS ro sd I1 f1 q1 I2 f2 q2 (nI 15) hw) X hL hl vb_X4_isAbove q573 (hsd.recv hKV) rfl rfl (Nat.le_of_ble_eq_true rfl) dX2_lambda_wouldFall_13_8 ⟨Nat.le_of_ble_eq_true rfl, Nat.le_of_ble_eq_true rfl⟩ (by omega) (by omega) ⟨hsd, hq1, hq2⟩ (fun locs hL => ?_)
  exact r_iret X hL rfl (narrow_bI _) dX2_lambda_wouldFall_13_11 (by omega) (by omega) ⟨rfl, Ext.rfl'⟩
theorem vb_X2_lambda_wouldFall_13 : VB yX2_lambda_wouldFall_13 cX2_lambda_wouldFall_13 3 (some .boolean) 2 := ⟨q1721, qs48, q100, q1722, ⟨by decide, by decide, by decide +kernel⟩⟩

set_option maxRecDepth 100000 in
set_option maxHeartbeats 4000000 in
theorem ct_X2_lambda_beaten_5 (l : Launch) (g : GT) (ro : Nat → Int32) (a : Nat) (f1 : Nat → Int32) (q1 : Nat) (f2 : Nat → Int32) (q2 : Nat) (hw : WO (mw ro)) : Ct l g yX2_lambda_beaten_5 cX2_lambda_beaten_5 3 (some .boolean) 8 0 0 [.ref a, .ref q1, .ref q2] (fun H => SdQ g ro a H ∧ OfQ g f1 q1 H ∧ OfQ g f2 q2 H) (PoB (couB (mle ro) (mgr ro) f2 && beyB (mw ro) f1 f2 (swB (mw ro) (nI 15)))) := by
  refine Ct.of (by decide) (Nat.le_of_ble_eq_true rfl) ?_
  intro p e s m args below meth c X hP ls hl
  have hx := X.1
  have hb := X.2.1
  have hKV := X.2.2.2.2.2.2.2.1.1
  have hL : ∀ q ∈ ([] : List Loc), gLo g ≤ q.base := fun _ h => by cases h
  obtain ⟨hs, ⟨I1, hq1⟩, ⟨I2, hq2⟩⟩ := hP
  obtain ⟨sb, sd, PS, v1, v2, ob, hsd⟩ := hs
  have hl : lv_has ls 3 [(0, .ref a), (1, .ref q1), (2, .ref q2)] := hl
  refine lv_aload_n hx hb dX2_lambda_beaten_5_0 rfl (lv_at hl 0 rfl) ?_
  refine r_get (C := RX2) (T := TX2) (N := 4) (ci := 2) X in_X2 rfl 1 (Nat.le_of_ble_eq_true rfl) q212 (fun _ h => h) ob rfl dX2_lambda_beaten_5_1 ?_
  refine lv_aload_n hx hb dX2_lambda_beaten_5_4 rfl (lv_at hl 2 rfl) ?_
  refine Cp.callV (v := .int (bI (couB (mle ro) (mgr ro) f2))) (ct_X4_counts l g PS ro sd I2 f2 q2 ) X hL hl vb_X4_counts q534 (hsd.recv hKV) rfl rfl (Nat.le_of_ble_eq_true rfl) dX2_lambda_beaten_5_5 ⟨Nat.le_of_ble_eq_true rfl, Nat.le_of_ble_eq_true rfl⟩ (by omega) (by omega) ⟨hsd, hq2⟩ (fun locs hL => ?_)
  refine b_ifeq (tgt := 29) X dX2_lambda_beaten_5_8 (by decide) (fun c_8 => ?_) (fun c_8 => ?_)
  ·
    refine lv_iconst (v := nI 0) hx hb dX2_lambda_beaten_5_29 (by decide) ?_
    exact r_iret X hL rfl rfl dX2_lambda_beaten_5_30 (by omega) (by omega) ⟨v_f (by rw [c_8]; rfl), Ext.rfl'⟩
  ·
    refine lv_aload_n hx hb dX2_lambda_beaten_5_11 rfl (lv_at hl 0 rfl) ?_
    refine r_get (C := RX2) (T := TX2) (N := 4) (ci := 2) X in_X2 rfl 1 (Nat.le_of_ble_eq_true rfl) q212 (fun _ h => h) ob rfl dX2_lambda_beaten_5_12 ?_
    refine lv_aload_n hx hb dX2_lambda_beaten_5_15 rfl (lv_at hl 1 rfl) ?_
    refine lv_aload_n hx hb dX2_lambda_beaten_5_16 rfl (lv_at hl 2 rfl) ?_
    refine lv_bipush (v := nI 15) hx hb dX2_lambda_beaten_5_17 (by decide) ?_
    refine Cp.callV (v := .int (bI (beyB (mw ro) f1 f2 (swB (mw ro) (nI 15))))) (ct_X4_isAbove l g PS ro sd I1 f1 q1 I2 f2 q2 (nI 15) hw) X hL hl vb_X4_isAbove q573 (hsd.recv hKV) rfl rfl (Nat.le_of_ble_eq_true rfl) dX2_lambda_beaten_5_19 ⟨Nat.le_of_ble_eq_true rfl, Nat.le_of_ble_eq_true rfl⟩ (by omega) (by omega) ⟨hsd, hq1, hq2⟩ (fun locs hL => ?_)
    refine b_ifeq (tgt := 29) X dX2_lambda_beaten_5_22 (by decide) (fun c_22 => ?_) (fun c_22 => ?_)
    ·
      refine lv_iconst (v := nI 0) hx hb dX2_lambda_beaten_5_29 (by decide) ?_
      exact r_iret X hL rfl rfl dX2_lambda_beaten_5_30 (by omega) (by omega) ⟨v_f (by rw [c_8, c_22]; rfl), Ext.rfl'⟩
    ·
      refine lv_iconst (v := nI 1) hx hb dX2_lambda_beaten_5_25 (by decide) ?_
      refine lv_goto (tgt := 30) hx hb dX2_lambda_beaten_5_26 (by decide) ?_
      exact r_iret X hL rfl rfl dX2_lambda_beaten_5_30 (by omega) (by omega) ⟨v_t (by rw [c_8, c_22]; rfl), Ext.rfl'⟩
theorem vb_X2_lambda_beaten_5 : VB yX2_lambda_beaten_5 cX2_lambda_beaten_5 3 (some .boolean) 2 := ⟨q1124, qs25, q100, q1125, ⟨by decide, by decide, by decide +kernel⟩⟩

set_option maxRecDepth 100000 in
set_option maxHeartbeats 4000000 in
theorem ct_X2_lambda_beaters_4 (l : Launch) (g : GT) (ro : Nat → Int32) (a : Nat) (f1 : Nat → Int32) (q1 : Nat) (f2 : Nat → Int32) (q2 : Nat) (hw : WO (mw ro)) : Ct l g yX2_lambda_beaters_4 cX2_lambda_beaters_4 3 (some .boolean) 8 0 0 [.ref a, .ref q1, .ref q2] (fun H => SdQ g ro a H ∧ OfQ g f1 q1 H ∧ OfQ g f2 q2 H) (PoB (couB (mle ro) (mgr ro) f2 && beyB (mw ro) f2 f1 (swB (mw ro) (nI 15)))) := by
  refine Ct.of (by decide) (Nat.le_of_ble_eq_true rfl) ?_
  intro p e s m args below meth c X hP ls hl
  have hx := X.1
  have hb := X.2.1
  have hKV := X.2.2.2.2.2.2.2.1.1
  have hL : ∀ q ∈ ([] : List Loc), gLo g ≤ q.base := fun _ h => by cases h
  obtain ⟨hs, ⟨I1, hq1⟩, ⟨I2, hq2⟩⟩ := hP
  obtain ⟨sb, sd, PS, v1, v2, ob, hsd⟩ := hs
  have hl : lv_has ls 3 [(0, .ref a), (1, .ref q1), (2, .ref q2)] := hl
  refine lv_aload_n hx hb dX2_lambda_beaters_4_0 rfl (lv_at hl 0 rfl) ?_
  refine r_get (C := RX2) (T := TX2) (N := 4) (ci := 2) X in_X2 rfl 1 (Nat.le_of_ble_eq_true rfl) q212 (fun _ h => h) ob rfl dX2_lambda_beaters_4_1 ?_
  refine lv_aload_n hx hb dX2_lambda_beaters_4_4 rfl (lv_at hl 2 rfl) ?_
  refine Cp.callV (v := .int (bI (couB (mle ro) (mgr ro) f2))) (ct_X4_counts l g PS ro sd I2 f2 q2 ) X hL hl vb_X4_counts q534 (hsd.recv hKV) rfl rfl (Nat.le_of_ble_eq_true rfl) dX2_lambda_beaters_4_5 ⟨Nat.le_of_ble_eq_true rfl, Nat.le_of_ble_eq_true rfl⟩ (by omega) (by omega) ⟨hsd, hq2⟩ (fun locs hL => ?_)
  refine b_ifeq (tgt := 29) X dX2_lambda_beaters_4_8 (by decide) (fun c_8 => ?_) (fun c_8 => ?_)
  ·
    refine lv_iconst (v := nI 0) hx hb dX2_lambda_beaters_4_29 (by decide) ?_
    exact r_iret X hL rfl rfl dX2_lambda_beaters_4_30 (by omega) (by omega) ⟨v_f (by rw [c_8]; rfl), Ext.rfl'⟩
  ·
    refine lv_aload_n hx hb dX2_lambda_beaters_4_11 rfl (lv_at hl 0 rfl) ?_
    refine r_get (C := RX2) (T := TX2) (N := 4) (ci := 2) X in_X2 rfl 1 (Nat.le_of_ble_eq_true rfl) q212 (fun _ h => h) ob rfl dX2_lambda_beaters_4_12 ?_
    refine lv_aload_n hx hb dX2_lambda_beaters_4_15 rfl (lv_at hl 2 rfl) ?_
    refine lv_aload_n hx hb dX2_lambda_beaters_4_16 rfl (lv_at hl 1 rfl) ?_
    refine lv_bipush (v := nI 15) hx hb dX2_lambda_beaters_4_17 (by decide) ?_
    refine Cp.callV (v := .int (bI (beyB (mw ro) f2 f1 (swB (mw ro) (nI 15))))) (ct_X4_isAbove l g PS ro sd I2 f2 q2 I1 f1 q1 (nI 15) hw) X hL hl vb_X4_isAbove q573 (hsd.recv hKV) rfl rfl (Nat.le_of_ble_eq_true rfl) dX2_lambda_beaters_4_19 ⟨Nat.le_of_ble_eq_true rfl, Nat.le_of_ble_eq_true rfl⟩ (by omega) (by omega) ⟨hsd, hq2, hq1⟩ (fun locs hL => ?_)
    refine b_ifeq (tgt := 29) X dX2_lambda_beaters_4_22 (by decide) (fun c_22 => ?_) (fun c_22 => ?_)
    ·
      refine lv_iconst (v := nI 0) hx hb dX2_lambda_beaters_4_29 (by decide) ?_
      exact r_iret X hL rfl rfl dX2_lambda_beaters_4_30 (by omega) (by omega) ⟨v_f (by rw [c_8, c_22]; rfl), Ext.rfl'⟩
    ·
      refine lv_iconst (v := nI 1) hx hb dX2_lambda_beaters_4_25 (by decide) ?_
      refine lv_goto (tgt := 30) hx hb dX2_lambda_beaters_4_26 (by decide) ?_
      exact r_iret X hL rfl rfl dX2_lambda_beaters_4_30 (by omega) (by omega) ⟨v_t (by rw [c_8, c_22]; rfl), Ext.rfl'⟩
theorem vb_X2_lambda_beaters_4 : VB yX2_lambda_beaters_4 cX2_lambda_beaters_4 3 (some .boolean) 2 := ⟨q1184, qs31, q100, q1185, ⟨by decide, by decide, by decide +kernel⟩⟩

set_option maxRecDepth 100000 in
set_option maxHeartbeats 4000000 in
theorem ct_X2_lambda_bySums_7 (l : Launch) (g : GT) (ro : Nat → Int32) (a : Nat) (f1 : Nat → Int32) (q1 : Nat) (f2 : Nat → Int32) (q2 : Nat) (hw : WO (mw ro)) : Ct l g yX2_lambda_bySums_7 cX2_lambda_bySums_7 3 (some .boolean) 8 0 0 [.ref a, .ref q1, .ref q2] (fun H => SdQ g ro a H ∧ OfQ g f1 q1 H ∧ OfQ g f2 q2 H) (PoB (decide (smI (mw ro) f2 4 < smI (mw ro) f1 4))) := by
  refine Ct.of (by decide) (Nat.le_of_ble_eq_true rfl) ?_
  intro p e s m args below meth c X hP ls hl
  have hx := X.1
  have hb := X.2.1
  have hKV := X.2.2.2.2.2.2.2.1.1
  have hL : ∀ q ∈ ([] : List Loc), gLo g ≤ q.base := fun _ h => by cases h
  obtain ⟨hs, ⟨I1, hq1⟩, ⟨I2, hq2⟩⟩ := hP
  obtain ⟨sb, sd, PS, v1, v2, ob, hsd⟩ := hs
  have hl : lv_has ls 3 [(0, .ref a), (1, .ref q1), (2, .ref q2)] := hl
  refine lv_aload_n hx hb dX2_lambda_bySums_7_0 rfl (lv_at hl 0 rfl) ?_
  refine r_get (C := RX2) (T := TX2) (N := 4) (ci := 2) X in_X2 rfl 1 (Nat.le_of_ble_eq_true rfl) q212 (fun _ h => h) ob rfl dX2_lambda_bySums_7_1 ?_
  refine lv_aload_n hx hb dX2_lambda_bySums_7_4 rfl (lv_at hl 1 rfl) ?_
  refine Cp.callV (v := .int (smI (mw ro) f1 4)) (ct_X4_sum l g PS ro sd I1 f1 q1 hw) X hL hl vb_X4_sum q1019 (hsd.recv hKV) rfl rfl (Nat.le_of_ble_eq_true rfl) dX2_lambda_bySums_7_5 ⟨Nat.le_of_ble_eq_true rfl, Nat.le_of_ble_eq_true rfl⟩ (by omega) (by omega) ⟨hsd, hq1⟩ (fun locs hL => ?_)
  refine lv_aload_n hx hb dX2_lambda_bySums_7_8 rfl (lv_at hl 0 rfl) ?_
  refine r_get (C := RX2) (T := TX2) (N := 4) (ci := 2) X in_X2 rfl 1 (Nat.le_of_ble_eq_true rfl) q212 (fun _ h => h) ob rfl dX2_lambda_bySums_7_9 ?_
  refine lv_aload_n hx hb dX2_lambda_bySums_7_12 rfl (lv_at hl 2 rfl) ?_
  refine Cp.callV (v := .int (smI (mw ro) f2 4)) (ct_X4_sum l g PS ro sd I2 f2 q2 hw) X hL hl vb_X4_sum q1019 (hsd.recv hKV) rfl rfl (Nat.le_of_ble_eq_true rfl) dX2_lambda_bySums_7_13 ⟨Nat.le_of_ble_eq_true rfl, Nat.le_of_ble_eq_true rfl⟩ (by omega) (by omega) ⟨hsd, hq2⟩ (fun locs hL => ?_)
  refine lv_icmp_le (tgt := 23) hx hb dX2_lambda_bySums_7_16 (by decide) (fun c_16 => ?_) (fun c_16 => ?_)
  ·
    refine lv_iconst (v := nI 0) hx hb dX2_lambda_bySums_7_23 (by decide) ?_
    exact r_iret X hL rfl rfl dX2_lambda_bySums_7_24 (by omega) (by omega) ⟨v_f (decide_eq_false (nlt_of_le c_16)), Ext.rfl'⟩
  ·
    refine lv_iconst (v := nI 1) hx hb dX2_lambda_bySums_7_19 (by decide) ?_
    refine lv_goto (tgt := 24) hx hb dX2_lambda_bySums_7_20 (by decide) ?_
    exact r_iret X hL rfl rfl dX2_lambda_bySums_7_24 (by omega) (by omega) ⟨v_t (decide_eq_true (lt_of_nle c_16)), Ext.rfl'⟩
theorem vb_X2_lambda_bySums_7 : VB yX2_lambda_bySums_7 cX2_lambda_bySums_7 3 (some .boolean) 2 := ⟨q1017, qs21, q100, q1018, ⟨by decide, by decide, by decide +kernel⟩⟩

set_option maxRecDepth 100000 in
set_option maxHeartbeats 4000000 in
theorem ct_X2_lambda_scored_15 (l : Launch) (g : GT) (ro : Nat → Int32) (a : Nat) (f1 : Nat → Int32) (q1 : Nat) (f2 : Nat → Int32) (q2 : Nat) (hw : WO (mw ro)) : Ct l g yX2_lambda_scored_15 cX2_lambda_scored_15 3 (some .boolean) 8 0 0 [.ref a, .ref q1, .ref q2] (fun H => SdQ g ro a H ∧ OfQ g f1 q1 H ∧ OfQ g f2 q2 H) (PoB (decide (scoN (mw ro) (mwe ro) f2 4 < scoN (mw ro) (mwe ro) f1 4))) := by
  refine Ct.of (by decide) (Nat.le_of_ble_eq_true rfl) ?_
  intro p e s m args below meth c X hP ls hl
  have hx := X.1
  have hb := X.2.1
  have hKV := X.2.2.2.2.2.2.2.1.1
  have hL : ∀ q ∈ ([] : List Loc), gLo g ≤ q.base := fun _ h => by cases h
  obtain ⟨hs, ⟨I1, hq1⟩, ⟨I2, hq2⟩⟩ := hP
  obtain ⟨sb, sd, PS, v1, v2, ob, hsd⟩ := hs
  have hl : lv_has ls 3 [(0, .ref a), (1, .ref q1), (2, .ref q2)] := hl
  refine lv_aload_n hx hb dX2_lambda_scored_15_0 rfl (lv_at hl 0 rfl) ?_
  refine r_get (C := RX2) (T := TX2) (N := 4) (ci := 2) X in_X2 rfl 1 (Nat.le_of_ble_eq_true rfl) q212 (fun _ h => h) ob rfl dX2_lambda_scored_15_1 ?_
  refine lv_aload_n hx hb dX2_lambda_scored_15_4 rfl (lv_at hl 1 rfl) ?_
  refine Cp.callV (v := .int (scoN (mw ro) (mwe ro) f1 4)) (ct_X4_score l g PS ro sd I1 f1 q1 hw) X hL hl vb_X4_score q1267 (hsd.recv hKV) rfl rfl (Nat.le_of_ble_eq_true rfl) dX2_lambda_scored_15_5 ⟨Nat.le_of_ble_eq_true rfl, Nat.le_of_ble_eq_true rfl⟩ (by omega) (by omega) ⟨hsd, hq1⟩ (fun locs hL => ?_)
  refine lv_aload_n hx hb dX2_lambda_scored_15_8 rfl (lv_at hl 0 rfl) ?_
  refine r_get (C := RX2) (T := TX2) (N := 4) (ci := 2) X in_X2 rfl 1 (Nat.le_of_ble_eq_true rfl) q212 (fun _ h => h) ob rfl dX2_lambda_scored_15_9 ?_
  refine lv_aload_n hx hb dX2_lambda_scored_15_12 rfl (lv_at hl 2 rfl) ?_
  refine Cp.callV (v := .int (scoN (mw ro) (mwe ro) f2 4)) (ct_X4_score l g PS ro sd I2 f2 q2 hw) X hL hl vb_X4_score q1267 (hsd.recv hKV) rfl rfl (Nat.le_of_ble_eq_true rfl) dX2_lambda_scored_15_13 ⟨Nat.le_of_ble_eq_true rfl, Nat.le_of_ble_eq_true rfl⟩ (by omega) (by omega) ⟨hsd, hq2⟩ (fun locs hL => ?_)
  refine lv_icmp_le (tgt := 23) hx hb dX2_lambda_scored_15_16 (by decide) (fun c_16 => ?_) (fun c_16 => ?_)
  ·
    refine lv_iconst (v := nI 0) hx hb dX2_lambda_scored_15_23 (by decide) ?_
    exact r_iret X hL rfl rfl dX2_lambda_scored_15_24 (by omega) (by omega) ⟨v_f (decide_eq_false (nlt_of_le c_16)), Ext.rfl'⟩
  ·
    refine lv_iconst (v := nI 1) hx hb dX2_lambda_scored_15_19 (by decide) ?_
    refine lv_goto (tgt := 24) hx hb dX2_lambda_scored_15_20 (by decide) ?_
    exact r_iret X hL rfl rfl dX2_lambda_scored_15_24 (by omega) (by omega) ⟨v_t (decide_eq_true (lt_of_nle c_16)), Ext.rfl'⟩
theorem vb_X2_lambda_scored_15 : VB yX2_lambda_scored_15 cX2_lambda_scored_15 3 (some .boolean) 2 := ⟨q1265, qs40, q100, q1266, ⟨by decide, by decide, by decide +kernel⟩⟩

set_option maxRecDepth 100000 in
set_option maxHeartbeats 4000000 in
theorem ct_X2_lambda_weakly_11 (l : Launch) (g : GT) (ro : Nat → Int32) (a : Nat) (f1 : Nat → Int32) (q1 : Nat) (t : Int32) (f2 : Nat → Int32) (q2 : Nat) (hw : WO (mw ro)) : Ct l g yX2_lambda_weakly_11 cX2_lambda_weakly_11 4 (some .boolean) 8 0 0 [.ref a, .ref q1, .int t, .ref q2] (fun H => SdQ g ro a H ∧ OfQ g f1 q1 H ∧ OfQ g f2 q2 H) (PoB (decide (t ≤ nI (asN (mw ro) f2 f1 (nI 15))) && decide (0 < betN (mw ro) f2 f1 (swB (mw ro) (nI 15))))) := by
  refine Ct.of (by decide) (Nat.le_of_ble_eq_true rfl) ?_
  intro p e s m args below meth c X hP ls hl
  have hx := X.1
  have hb := X.2.1
  have hKV := X.2.2.2.2.2.2.2.1.1
  have hL : ∀ q ∈ ([] : List Loc), gLo g ≤ q.base := fun _ h => by cases h
  obtain ⟨hs, ⟨I1, hq1⟩, ⟨I2, hq2⟩⟩ := hP
  obtain ⟨sb, sd, PS, v1, v2, ob, hsd⟩ := hs
  have hl : lv_has ls 4 [(0, .ref a), (1, .ref q1), (2, .int t), (3, .ref q2)] := hl
  refine lv_aload_n hx hb dX2_lambda_weakly_11_0 rfl (lv_at hl 0 rfl) ?_
  refine r_get (C := RX2) (T := TX2) (N := 4) (ci := 2) X in_X2 rfl 1 (Nat.le_of_ble_eq_true rfl) q212 (fun _ h => h) ob rfl dX2_lambda_weakly_11_1 ?_
  refine lv_aload_n hx hb dX2_lambda_weakly_11_4 rfl (lv_at hl 3 rfl) ?_
  refine lv_aload_n hx hb dX2_lambda_weakly_11_5 rfl (lv_at hl 1 rfl) ?_
  refine lv_iload_n hx hb dX2_lambda_weakly_11_6 rfl (lv_at hl 2 rfl) ?_
  refine Cp.callV (v := .int (bI (decide (t ≤ nI (asN (mw ro) f2 f1 (nI 15))) && decide (0 < betN (mw ro) f2 f1 (swB (mw ro) (nI 15)))))) (ct_X4_isAboveWeakly l g PS ro sd I2 f2 q2 I1 f1 q1 t hw) X hL hl vb_X4_isAboveWeakly q1228 (hsd.recv hKV) rfl rfl (Nat.le_of_ble_eq_true rfl) dX2_lambda_weakly_11_7 ⟨Nat.le_of_ble_eq_true rfl, Nat.le_of_ble_eq_true rfl⟩ (by omega) (by omega) ⟨hsd, hq2, hq1⟩ (fun locs hL => ?_)
  exact r_iret X hL rfl (narrow_bI _) dX2_lambda_weakly_11_10 (by omega) (by omega) ⟨rfl, Ext.rfl'⟩
theorem vb_X2_lambda_weakly_11 : VB yX2_lambda_weakly_11 cX2_lambda_weakly_11 4 (some .boolean) 3 := ⟨q1226, qs37, q100, q1227, ⟨by decide, by decide, by decide +kernel⟩⟩

set_option maxRecDepth 100000 in
set_option maxHeartbeats 4000000 in
theorem ct_X2_lambda_prunes_0 (l : Launch) (g : GT) (q1 q2 : Nat)  : Ct l g yX2_lambda_prunes_0 cX2_lambda_prunes_0 2 (some .boolean) 2 0 0 [.ref q1, .ref q2] (fun _ => True) (PoB (decide (q2 = q1))) := by
  refine Ct.of (by decide) (Nat.le_of_ble_eq_true rfl) ?_
  intro p e s m args below meth c X hP ls hl
  have hx := X.1
  have hb := X.2.1
  have hKV := X.2.2.2.2.2.2.2.1.1
  have hL : ∀ q ∈ ([] : List Loc), gLo g ≤ q.base := fun _ h => by cases h
  have hl : lv_has ls 2 [(0, .ref q1), (1, .ref q2)] := hl
  refine lv_aload_n hx hb dX2_lambda_prunes_0_0 rfl (lv_at hl 1 rfl) ?_
  refine lv_aload_n hx hb dX2_lambda_prunes_0_1 rfl (lv_at hl 0 rfl) ?_
  refine lv_acmp_ne (rx := some (q2)) (ry := some (q1)) (tgt := 9) hx hb dX2_lambda_prunes_0_2 (by decide) (fun c_2 => ?_) (fun c_2 => ?_)
  ·
    refine lv_iconst (v := nI 0) hx hb dX2_lambda_prunes_0_9 (by decide) ?_
    exact r_iret X hL rfl rfl dX2_lambda_prunes_0_10 (by omega) (by omega) ⟨v_f (decide_eq_false (fun z => c_2 (congrArg some z))), Ext.rfl'⟩
  ·
    refine lv_iconst (v := nI 1) hx hb dX2_lambda_prunes_0_5 (by decide) ?_
    refine lv_goto (tgt := 10) hx hb dX2_lambda_prunes_0_6 (by decide) ?_
    exact r_iret X hL rfl rfl dX2_lambda_prunes_0_10 (by omega) (by omega) ⟨v_t (decide_eq_true (Option.some.inj (by first | exact c_2 | exact Classical.byContradiction c_2))), Ext.rfl'⟩
theorem sb_X2_lambda_prunes_0 : SB yX2_lambda_prunes_0 cX2_lambda_prunes_0 2 (some .boolean) 2 := ⟨q598, q100, q599, ⟨by decide, by decide, by decide +kernel⟩⟩

set_option maxRecDepth 100000 in
set_option maxHeartbeats 4000000 in
theorem ct_X2_lambda_peeled_8 (l : Launch) (g : GT) (q1 q2 : Nat)  : Ct l g yX2_lambda_peeled_8 cX2_lambda_peeled_8 2 (some .boolean) 2 0 0 [.ref q1, .ref q2] (fun _ => True) (PoB (decide (q2 = q1))) := by
  refine Ct.of (by decide) (Nat.le_of_ble_eq_true rfl) ?_
  intro p e s m args below meth c X hP ls hl
  have hx := X.1
  have hb := X.2.1
  have hKV := X.2.2.2.2.2.2.2.1.1
  have hL : ∀ q ∈ ([] : List Loc), gLo g ≤ q.base := fun _ h => by cases h
  have hl : lv_has ls 2 [(0, .ref q1), (1, .ref q2)] := hl
  refine lv_aload_n hx hb dX2_lambda_peeled_8_0 rfl (lv_at hl 1 rfl) ?_
  refine lv_aload_n hx hb dX2_lambda_peeled_8_1 rfl (lv_at hl 0 rfl) ?_
  refine lv_acmp_ne (rx := some (q2)) (ry := some (q1)) (tgt := 9) hx hb dX2_lambda_peeled_8_2 (by decide) (fun c_2 => ?_) (fun c_2 => ?_)
  ·
    refine lv_iconst (v := nI 0) hx hb dX2_lambda_peeled_8_9 (by decide) ?_
    exact r_iret X hL rfl rfl dX2_lambda_peeled_8_10 (by omega) (by omega) ⟨v_f (decide_eq_false (fun z => c_2 (congrArg some z))), Ext.rfl'⟩
  ·
    refine lv_iconst (v := nI 1) hx hb dX2_lambda_peeled_8_5 (by decide) ?_
    refine lv_goto (tgt := 10) hx hb dX2_lambda_peeled_8_6 (by decide) ?_
    exact r_iret X hL rfl rfl dX2_lambda_peeled_8_10 (by omega) (by omega) ⟨v_t (decide_eq_true (Option.some.inj (by first | exact c_2 | exact Classical.byContradiction c_2))), Ext.rfl'⟩
theorem sb_X2_lambda_peeled_8 : SB yX2_lambda_peeled_8 cX2_lambda_peeled_8 2 (some .boolean) 2 := ⟨q1079, q100, q1080, ⟨by decide, by decide, by decide +kernel⟩⟩

set_option maxRecDepth 100000 in
set_option maxHeartbeats 4000000 in
theorem ct_X1_lambda_isInWindow_0 (l : Launch) (g : GT) (q1 q2 : Nat)  : Ct l g yX1_lambda_isInWindow_0 cX1_lambda_isInWindow_0 2 (some .boolean) 2 0 0 [.ref q1, .ref q2] (fun _ => True) (PoB (decide (q2 = q1))) := by
  refine Ct.of (by decide) (Nat.le_of_ble_eq_true rfl) ?_
  intro p e s m args below meth c X hP ls hl
  have hx := X.1
  have hb := X.2.1
  have hKV := X.2.2.2.2.2.2.2.1.1
  have hL : ∀ q ∈ ([] : List Loc), gLo g ≤ q.base := fun _ h => by cases h
  have hl : lv_has ls 2 [(0, .ref q1), (1, .ref q2)] := hl
  refine lv_aload_n hx hb dX1_lambda_isInWindow_0_0 rfl (lv_at hl 1 rfl) ?_
  refine lv_aload_n hx hb dX1_lambda_isInWindow_0_1 rfl (lv_at hl 0 rfl) ?_
  refine lv_acmp_ne (rx := some (q2)) (ry := some (q1)) (tgt := 9) hx hb dX1_lambda_isInWindow_0_2 (by decide) (fun c_2 => ?_) (fun c_2 => ?_)
  ·
    refine lv_iconst (v := nI 0) hx hb dX1_lambda_isInWindow_0_9 (by decide) ?_
    exact r_iret X hL rfl rfl dX1_lambda_isInWindow_0_10 (by omega) (by omega) ⟨v_f (decide_eq_false (fun z => c_2 (congrArg some z))), Ext.rfl'⟩
  ·
    refine lv_iconst (v := nI 1) hx hb dX1_lambda_isInWindow_0_5 (by decide) ?_
    refine lv_goto (tgt := 10) hx hb dX1_lambda_isInWindow_0_6 (by decide) ?_
    exact r_iret X hL rfl rfl dX1_lambda_isInWindow_0_10 (by omega) (by omega) ⟨v_t (decide_eq_true (Option.some.inj (by first | exact c_2 | exact Classical.byContradiction c_2))), Ext.rfl'⟩
theorem sb_X1_lambda_isInWindow_0 : SB yX1_lambda_isInWindow_0 cX1_lambda_isInWindow_0 2 (some .boolean) 2 := ⟨q1196, q99, q1197, ⟨by decide, by decide, by decide +kernel⟩⟩

set_option maxRecDepth 100000 in
set_option maxHeartbeats 4000000 in
theorem ct_X2_lambda_isToldWith_14 (l : Launch) (g : GT) (q1 q2 : Nat)  : Ct l g yX2_lambda_isToldWith_14 cX2_lambda_isToldWith_14 2 (some .boolean) 2 0 0 [.ref q1, .ref q2] (fun _ => True) (PoB (!decide (q2 = q1))) := by
  refine Ct.of (by decide) (Nat.le_of_ble_eq_true rfl) ?_
  intro p e s m args below meth c X hP ls hl
  have hx := X.1
  have hb := X.2.1
  have hKV := X.2.2.2.2.2.2.2.1.1
  have hL : ∀ q ∈ ([] : List Loc), gLo g ≤ q.base := fun _ h => by cases h
  have hl : lv_has ls 2 [(0, .ref q1), (1, .ref q2)] := hl
  refine lv_aload_n hx hb dX2_lambda_isToldWith_14_0 rfl (lv_at hl 1 rfl) ?_
  refine lv_aload_n hx hb dX2_lambda_isToldWith_14_1 rfl (lv_at hl 0 rfl) ?_
  refine lv_acmp_eq (rx := some (q2)) (ry := some (q1)) (tgt := 9) hx hb dX2_lambda_isToldWith_14_2 (by decide) (fun c_2 => ?_) (fun c_2 => ?_)
  ·
    refine lv_iconst (v := nI 0) hx hb dX2_lambda_isToldWith_14_9 (by decide) ?_
    exact r_iret X hL rfl rfl dX2_lambda_isToldWith_14_10 (by omega) (by omega) ⟨v_f (by rw [decide_eq_true (Option.some.inj c_2)]; rfl), Ext.rfl'⟩
  ·
    refine lv_iconst (v := nI 1) hx hb dX2_lambda_isToldWith_14_5 (by decide) ?_
    refine lv_goto (tgt := 10) hx hb dX2_lambda_isToldWith_14_6 (by decide) ?_
    exact r_iret X hL rfl rfl dX2_lambda_isToldWith_14_10 (by omega) (by omega) ⟨v_t (by rw [decide_eq_false (fun z => c_2 (congrArg some z))]; rfl), Ext.rfl'⟩
theorem sb_X2_lambda_isToldWith_14 : SB yX2_lambda_isToldWith_14 cX2_lambda_isToldWith_14 2 (some .boolean) 2 := ⟨q1746, q100, q1747, ⟨by decide, by decide, by decide +kernel⟩⟩

set_option maxRecDepth 100000 in
set_option maxHeartbeats 4000000 in
theorem ct_X2_lambda_told_3 (l : Launch) (g : GT) (ro : Nat → Int32) (a : Nat) (x : Nat → Nat) (L : List Nat) (b : Nat) (f : Nat → Int32) (q : Nat) (hw : WO (mw ro)) (hLn : L.length ≤ 40) : Ct l g yX2_lambda_told_3 cX2_lambda_told_3 3 (some .boolean) 7 0 0 [.ref a, .ref b, .ref q] (fun H => SdQ g ro a H ∧ OfQ g f q H ∧ BgQ g x L b H ∧ OfL g ro x L H) (PoB (!btV ro (nI 15) L f)) := by
  refine Ct.of (by decide) (Nat.le_of_ble_eq_true rfl) ?_
  intro p e s m args below meth c X hP ls hl
  have hx := X.1
  have hb := X.2.1
  have hKV := X.2.2.2.2.2.2.2.1.1
  have hL : ∀ q ∈ ([] : List Loc), gLo g ≤ q.base := fun _ h => by cases h
  have hs0 := hP.1
  have hl : lv_has ls 3 [(0, .ref a), (1, .ref b), (2, .ref q)] := hl
  refine lv_aload_n hx hb dX2_lambda_told_3_0 rfl (lv_at hl 0 rfl) ?_
  refine lv_aload_n hx hb dX2_lambda_told_3_1 rfl (lv_at hl 2 rfl) ?_
  refine lv_aload_n hx hb dX2_lambda_told_3_2 rfl (lv_at hl 1 rfl) ?_
  refine lv_bipush (v := nI 15) hx hb dX2_lambda_told_3_3 (by decide) ?_
  refine Cp.callV (v := .int (bI (btV ro (nI 15) L f))) (ct_X2_isBeaten l g ro a f q x L b (nI 15) hw hLn) X hL hl vb_X2_isBeaten q560 (hs0.recv hKV) rfl rfl (Nat.le_of_ble_eq_true rfl) dX2_lambda_told_3_5 ⟨Nat.le_of_ble_eq_true rfl, Nat.le_of_ble_eq_true rfl⟩ (by omega) (by omega) hP (fun locs hL => ?_)
  refine b_ifne (tgt := 15) X dX2_lambda_told_3_8 (by decide) (fun c_8 => ?_) (fun c_8 => ?_)
  ·
    refine lv_iconst (v := nI 0) hx hb dX2_lambda_told_3_15 (by decide) ?_
    exact r_iret X hL rfl rfl dX2_lambda_told_3_16 (by omega) (by omega) ⟨v_f (by rw [c_8]; rfl), Ext.rfl'⟩
  ·
    refine lv_iconst (v := nI 1) hx hb dX2_lambda_told_3_11 (by decide) ?_
    refine lv_goto (tgt := 16) hx hb dX2_lambda_told_3_12 (by decide) ?_
    exact r_iret X hL rfl rfl dX2_lambda_told_3_16 (by omega) (by omega) ⟨v_t (by rw [c_8]; rfl), Ext.rfl'⟩
theorem vb_X2_lambda_told_3 : VB yX2_lambda_told_3 cX2_lambda_told_3 3 (some .boolean) 2 := ⟨q558, qs8, q100, q559, ⟨by decide, by decide, by decide +kernel⟩⟩

set_option maxRecDepth 100000 in
set_option maxHeartbeats 4000000 in
theorem ct_X2_lambda_toldBy_10 (l : Launch) (g : GT) (ro : Nat → Int32) (a : Nat) (x : Nat → Nat) (L : List Nat) (b : Nat) (t : Int32) (f : Nat → Int32) (q : Nat) (hw : WO (mw ro)) (hLn : L.length ≤ 40) : Ct l g yX2_lambda_toldBy_10 cX2_lambda_toldBy_10 4 (some .boolean) 8 0 0 [.ref a, .ref b, .int t, .ref q] (fun H => SdQ g ro a H ∧ OfQ g f q H ∧ BgQ g x L b H ∧ OfL g ro x L H) (PoB (!btV ro t L f)) := by
  refine Ct.of (by decide) (Nat.le_of_ble_eq_true rfl) ?_
  intro p e s m args below meth c X hP ls hl
  have hx := X.1
  have hb := X.2.1
  have hKV := X.2.2.2.2.2.2.2.1.1
  have hL : ∀ q ∈ ([] : List Loc), gLo g ≤ q.base := fun _ h => by cases h
  have hs0 := hP.1
  have hl : lv_has ls 4 [(0, .ref a), (1, .ref b), (2, .int t), (3, .ref q)] := hl
  refine lv_aload_n hx hb dX2_lambda_toldBy_10_0 rfl (lv_at hl 0 rfl) ?_
  refine lv_aload_n hx hb dX2_lambda_toldBy_10_1 rfl (lv_at hl 3 rfl) ?_
  refine lv_aload_n hx hb dX2_lambda_toldBy_10_2 rfl (lv_at hl 1 rfl) ?_
  refine lv_iload_n hx hb dX2_lambda_toldBy_10_3 rfl (lv_at hl 2 rfl) ?_
  refine Cp.callV (v := .int (bI (!btV ro t L f))) (ct_X2_isToldOn l g ro a f q x L b t hw hLn) X hL hl vb_X2_isToldOn q1214 (hs0.recv hKV) rfl rfl (Nat.le_of_ble_eq_true rfl) dX2_lambda_toldBy_10_4 ⟨Nat.le_of_ble_eq_true rfl, Nat.le_of_ble_eq_true rfl⟩ (by omega) (by omega) hP (fun locs hL => ?_)
  exact r_iret X hL rfl (narrow_bI _) dX2_lambda_toldBy_10_7 (by omega) (by omega) ⟨rfl, Ext.rfl'⟩
theorem vb_X2_lambda_toldBy_10 : VB yX2_lambda_toldBy_10 cX2_lambda_toldBy_10 4 (some .boolean) 3 := ⟨q1212, qs34, q100, q1213, ⟨by decide, by decide, by decide +kernel⟩⟩
