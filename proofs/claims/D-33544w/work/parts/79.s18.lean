/-! the state changed: values, wishes, bounds -/
theorem upi_inj {x : Nat → Nat} {n i q z : Nat} (h : ∀ i j, i < n → j < n → x i = x j → i = j) (hx : ∀ j, j < n → x j < z) (hz : z ≤ q) : ∀ a b, a < n → b < n → va_up x i q a = va_up x i q b → a = b := fun a b ha hb e => by
  unfold va_up at e
  have := hx a ha
  have := hx b hb
  by_cases p : a = i <;> by_cases r : b = i
  · omega
  · rw [if_pos p, if_neg r] at e; omega
  · rw [if_neg p, if_pos r] at e; omega
  · rw [if_neg p, if_neg r] at e; exact h a b ha hb e
theorem chg_of {g : GT} {P I : Nat → Prop} {ro x : Nat → _} {n i s0 q : Nat} {v : Int32} {z : Nat} {H H1 H2 : Heap} (hs : s0 < 4) (hC : Chg P H H2) (hC1 : Chg P H1 H2) (hI : ∀ q, I q → ¬ P q) (hz : ∀ q, P q → q < z) (hofs : ∀ j, j < n → OffR g I (mv ro j) (x j) H) (hq : OffR g (fun q => z ≤ q) (upd (mv ro i) s0 v) q H1) : ∀ j, j < n → OffR g (fun q => I q ∨ z ≤ q) (mv (upd ro (4 * i + s0) v) j) (va_up x i q j) H2 := fun j hj => by
  unfold va_up
  by_cases e : j = i
  · subst e
    rw [if_pos rfl]
    refine (hq.keep hC1 (fun q h1 h2 => by have := hz q h2; omega)).to (fun k hk => ?_) (fun _ z => Or.inr z)
    unfold mv upd
    dsimp only
    by_cases y : k = s0
    · rw [if_pos y, if_pos (by omega)]
    · rw [if_neg y, if_neg (by omega)]
  · rw [if_neg e]
    refine ((hofs j hj).keep hC hI).to (fun k hk => ?_) (fun _ z => Or.inl z)
    unfold mv upd
    rw [if_neg (by omega)]
theorem of_to {g : GT} {I : Nat → Prop} {ro r1 : Nat → Int32} {n : Nat} {x : Nat → Nat} {H : Heap} (h : ∀ j, j < n → OffR g I (mv ro j) (x j) H) (e : ∀ k, k < 160 → ro k = r1 k) (hn : n ≤ 40) : ∀ j, j < n → OffR g I (mv r1 j) (x j) H := fun j hj => (h j hj).to (fun k hk => e _ (by omega)) (fun _ z => z)
theorem upw_w (ro : Nat → Int32) {s0 j : Nat} (k : Nat) (v : Int32) : upd (fun q => ro (k + q)) s0 v j = upd ro (k + s0) v (k + j) := by
  unfold upd
  dsimp only
  by_cases y : j = s0
  · rw [if_pos y, if_pos (by omega)]
  · rw [if_neg y, if_neg (by omega)]

set_option maxRecDepth 100000 in
set_option maxHeartbeats 4000000 in
theorem ct_X2_changes (l : Launch) (g : GT) (P I : Nat → Prop) (ro : Nat → Int32) (n : Nat) (x : Nat → Nat) (a : Nat) (i s0 : Nat) (v : Int32) (hI : ∀ q, I q → ¬ P q) (hE0 : ¬ P (gE g)) (hi : i < n) (hs : s0 < 4) : Ct l g yX2_changes cX2_changes 6 (some .int) 7 2 5 [.ref a, .int (nI i), .int (nI s0), .int v] (fun H => StR g P I ro n x a H ∧ ∀ q, P q → q < H.size) (fun r H H1 => ∃ q2, r = some (.int (ro (4 * i + s0))) ∧ StR g P (fun q => I q ∨ H.size ≤ q) (upd ro (4 * i + s0) v) n (va_up x i q2) a H1 ∧ Chg P H H1) := by
  refine Ct.of (by decide) (Nat.le_of_ble_eq_true rfl) ?_
  intro p e s m args below meth c X hP ls hl
  have hx := X.1
  have hb := X.2.1
  have hKV := X.2.2.2.2.2.2.2.1.1
  have hL : ∀ q ∈ ([] : List Loc), gLo g ≤ q.base := fun _ h => by cases h
  obtain ⟨hst, hPz⟩ := hP
  obtain ⟨b, sd, SS, hPa, loa, hSa, hSP, ob, hbg, hsd, hofs, hinj, h160, hn⟩ := hst
  obtain ⟨al, pb, lb, obb, hls⟩ := hbg
  obtain ⟨v0, i1, i2, lv1, lv2, ov, av⟩ := hofs i hi
  have hl : lv_has ls 6 [(0, .ref a), (1, .int (nI i)), (2, .int (nI s0)), (3, .int v)] := hl
  have hC : Chg P s.heap s.heap := Chg.rfl'
  have hxl := fun j (hj : j < n) => (hofs j hj).mem.2.1
  refine lv_aload_n hx hb dX2_changes_0 rfl (lv_at hl 0 rfl) ?_
  refine r_get (C := RX2) (T := TX2) (N := 4) (ci := 2) X in_X2 rfl 0 (Nat.le_of_ble_eq_true rfl) q210 (fun _ h => h) ob rfl dX2_changes_1 ?_
  refine lv_iload_n hx hb dX2_changes_4 rfl (lv_at hl 1 rfl) ?_
  refine Cp.callV (v := .ref (x i)) (ct_X3_get l g (fun q => P q ∧ q ≠ a ∧ ¬ SS q) x n b i hi) X hL hl vb_X3_get q568 (obb.recv hKV rfl) rfl rfl (Nat.le_of_ble_eq_true rfl) dX2_changes_5 ⟨Nat.le_of_ble_eq_true rfl, Nat.le_of_ble_eq_true rfl⟩ (by omega) (by omega) ⟨al, pb, lb, obb, hls⟩ (fun locs hL => ?_)
  refine r_cast (ci := 5) X rfl ov q572 dX2_changes_8 ?_
  refine lv_astore (lv' := [(4, .ref _), (0, .ref _), (1, .int _), (2, .int _), (3, .int _)]) hx hb dX2_changes_11 hl (by decide) rfl (fun ls hl => ?_)
  refine lv_aload_n hx hb dX2_changes_13 rfl (lv_at hl 1 rfl) ?_
  refine r_get (C := RX2) (T := TX2) (N := 4) (ci := 2) X in_X2 rfl 0 (Nat.le_of_ble_eq_true rfl) q210 (fun _ h => h) ob rfl dX2_changes_14 ?_
  refine r_getN (C := RX3) (T := TX3) (N := 1) (ci := 3) X in_X3 rfl 0 (Nat.le_of_ble_eq_true rfl) q179 (fun _ h => h) obb rfl dX2_changes_17 ?_
  refine lv_iload_n hx hb dX2_changes_20 rfl (lv_at hl 2 rfl) ?_
  refine lv_aload hx hb dX2_changes_21 (lv_at hl 0 rfl) ?_
  refine lv_iload_n hx hb dX2_changes_23 rfl (lv_at hl 3 rfl) ?_
  refine lv_iload_n hx hb dX2_changes_24 rfl (lv_at hl 4 rfl) ?_
  refine Ct.callV (ct_X6_with l g (mv ro i) (x i) s0 v hs) X hL hl vb_X6_with q1414 (ov.recv hKV rfl) rfl rfl (Nat.le_of_ble_eq_true rfl) dX2_changes_25 ⟨Nat.le_of_ble_eq_true rfl, Nat.le_of_ble_eq_true rfl⟩ (by omega) (by omega) ⟨_, hofs i hi⟩ (fun r H locs hL hp => ?_)
  obtain ⟨q2, ⟨hq2, hq2l⟩, rfl, hE1⟩ := hp
  have ob := ob.ext hE1
  have obb := obb.ext hE1
  have hls := hls.ext hE1
  have hsd := hsd.ext hE1
  have ov := ov.ext hE1
  have av := av.ext hE1
  have hq0 := hq2
  have hC := hC.trans hE1.chg
  have hH1 : ∀ j, j < n → ∃ fs, Ob g (x j) 5 fs H := fun j hj => (hofs j hj).mem.2.2.2.elim (fun fs z => ⟨fs, z.ext hE1⟩)
  have hCq : Chg P H H := Chg.rfl'
  obtain ⟨vq, -, -, -, -, oq, -⟩ := id hq2
  refine Ct.callV (ct_J2_set l g (fun q => (fun q => P q ∧ q ≠ a ∧ ¬ SS q) q ∧ q ≠ b) x n al i q2 hi) X hL hl vb_J2_set q1422 (hls.recv hKV) rfl rfl (Nat.le_of_ble_eq_true rfl) dX2_changes_28 ⟨Nat.le_of_ble_eq_true rfl, Nat.le_of_ble_eq_true rfl⟩ (by omega) (by omega) ⟨hls, _, oq⟩ (fun r H locs hL hp => ?_)
  obtain ⟨rfl, hls, hC0⟩ := hp
  have ob := ob.chg hC0 (fun z => z.1.2.1 rfl)
  have obb := obb.chg hC0 (fun z => z.2 rfl)
  have hsd := hsd.keep hC0 (fun q hq z => z.1.2.2 hq)
  have ov := ov.chg hC0 (fun z => hI _ i1 z.1.1)
  have av := av.chg hC0 (fun z => hI _ i2 z.1.1)
  have hC1 := hC0.mono (P := fun q => (fun q => P q ∧ q ≠ a ∧ ¬ SS q) q ∧ q ≠ b) (Q := P) (fun q z => z.1.1)
  have hCq := hCq.trans hC1
  have hC := hC.trans hC1
  refine r_cast (ci := 5) X rfl ov q572 dX2_changes_31 ?_
  refine lv_astore (lv' := [(5, .ref _), (4, .ref _), (0, .ref _), (1, .int _), (2, .int _), (3, .int _)]) hx hb dX2_changes_34 hl (by decide) rfl (fun ls hl => ?_)
  refine lv_aload hx hb dX2_changes_36 (lv_at hl 0 rfl) ?_
  refine r_getN (C := RX6) (T := TX6) (N := 1) (ci := 5) X in_X6 rfl 0 (Nat.le_of_ble_eq_true rfl) q1356 (fun _ h => h) ov rfl dX2_changes_38 ?_
  refine lv_iload_n hx hb dX2_changes_41 rfl (lv_at hl 4 rfl) ?_
  refine r_ild X av s0 (nI_cl (by omega) rfl) (nI_nn (by omega) rfl) (by omega) dX2_changes_42 ?_
  exact r_iret X hL rfl rfl dX2_changes_43 (by omega) (by omega) ⟨q2, rfl, ⟨b, sd, SS, hPa, loa, hSa, fun q hq => ⟨(hSP q hq).1, Nat.lt_of_lt_of_le (hSP q hq).2 hC.1⟩, by rw [upd_n _ _ (by omega), upd_n _ _ (by omega)]; exact ob, ⟨al, pb, lb, obb, hls⟩, hsd.to (fun j h1 h2 => (upd_n _ _ (by omega)).symm) (fun _ z _ => z), chg_of hs hC hCq hI hPz hofs hq0, upi_inj hinj hxl hq2l, by rw [upd_n _ _ (by omega)]; exact h160, hn⟩, hC⟩
theorem vb_X2_changes : VB yX2_changes cX2_changes 6 (some .int) 3 := ⟨q1411, q1412, q100, q1413, ⟨by decide, by decide, by decide +kernel⟩⟩

set_option maxRecDepth 100000 in
set_option maxHeartbeats 4000000 in
theorem ct_X2_wishes (l : Launch) (g : GT) (P I : Nat → Prop) (ro : Nat → Int32) (n : Nat) (x : Nat → Nat) (a : Nat) (s0 : Nat) (v : Int32) (hI : ∀ q, I q → ¬ P q) (hE0 : ¬ P (gE g)) (hs : s0 < 4) : Ct l g yX2_wishes cX2_wishes 4 (some .int) 2 0 0 [.ref a, .int (nI s0), .int v] (StR g P I ro n x a) (fun r H H1 => r = some (.int (mw ro s0)) ∧ StR g P I (upd ro (161 + s0) v) n x a H1 ∧ Chg P H H1) := by
  refine Ct.of (by decide) (Nat.le_of_ble_eq_true rfl) ?_
  intro p e s m args below meth c X hP ls hl
  have hx := X.1
  have hb := X.2.1
  have hKV := X.2.2.2.2.2.2.2.1.1
  have hL : ∀ q ∈ ([] : List Loc), gLo g ≤ q.base := fun _ h => by cases h
  have hst := hP
  obtain ⟨b, sd, SS, hPa, loa, hSa, hSP, ob, hbg, hsd, hofs, hinj, h160, hn⟩ := hst
  obtain ⟨a1, a2, a3, a4, ⟨s0p, s1p, s2p, s3p, s4p⟩, lS, ⟨n1, n2, n3, n4, n5, n6, n7, n8, n9, n10⟩, o0, w1, w2, w3, w4⟩ := hsd
  have hl : lv_has ls 4 [(0, .ref a), (1, .int (nI s0)), (2, .int v)] := hl
  have hC : Chg P s.heap s.heap := Chg.rfl'
  have m1 : a ≠ a1 := fun z => hSa (z ▸ s1p)
  have m2 : a ≠ a2 := fun z => hSa (z ▸ s2p)
  have m3 : a ≠ a3 := fun z => hSa (z ▸ s3p)
  refine lv_aload_n hx hb dX2_wishes_0 rfl (lv_at hl 0 rfl) ?_
  refine r_get (C := RX2) (T := TX2) (N := 4) (ci := 2) X in_X2 rfl 1 (Nat.le_of_ble_eq_true rfl) q212 (fun _ h => h) ob rfl dX2_wishes_1 ?_
  refine r_getN (C := RX4) (T := TX4) (N := 4) (ci := 4) X in_X4 rfl 0 (Nat.le_of_ble_eq_true rfl) q190 (fun _ h => h) o0 rfl dX2_wishes_4 ?_
  refine lv_iload_n hx hb dX2_wishes_7 rfl (lv_at hl 1 rfl) ?_
  refine r_ild X w1 s0 (nI_cl (by omega) rfl) (nI_nn (by omega) rfl) (by omega) dX2_wishes_8 ?_
  refine lv_istore_n (lv' := [(3, .int _), (0, .ref _), (1, .int _), (2, .int _)]) hx hb dX2_wishes_9 rfl hl (by decide) rfl (fun ls hl => ?_)
  refine lv_aload_n hx hb dX2_wishes_10 rfl (lv_at hl 1 rfl) ?_
  refine r_get (C := RX2) (T := TX2) (N := 4) (ci := 2) X in_X2 rfl 1 (Nat.le_of_ble_eq_true rfl) q212 (fun _ h => h) ob rfl dX2_wishes_11 ?_
  refine r_getN (C := RX4) (T := TX4) (N := 4) (ci := 4) X in_X4 rfl 0 (Nat.le_of_ble_eq_true rfl) q190 (fun _ h => h) o0 rfl dX2_wishes_14 ?_
  refine lv_iload_n hx hb dX2_wishes_17 rfl (lv_at hl 2 rfl) ?_
  refine lv_iload_n hx hb dX2_wishes_18 rfl (lv_at hl 3 rfl) ?_
  refine r_ist X hL w1 lS.2.1 s0 (nI_cl (by omega) rfl) (nI_nn (by omega) rfl) (by omega) dX2_wishes_19 (fun H locs hL h1 h2 => ?_)
  have w1 : Ar g a1 0 4 (upd (mw ro) s0 v) H := h1
  have ob := ob.on h2 (by omega)
  have o0 := o0.on h2 (by omega)
  have w2 := w2.on h2 (by omega)
  have w3 := w3.on h2 (by omega)
  have w4 := w4.on h2 (by omega)
  have hC := hC.trans (h2.chg (hSP _ s1p).1)
  have hbg := hbg.keep (Q := fun q => q = a1) (h2.chg rfl) (fun q hq z => hq.2.2 (z ▸ s1p)) (fun z => hE0 (z ▸ (hSP _ s1p).1))
  refine lv_iload_n hx hb dX2_wishes_20 rfl (lv_at hl 0 rfl) ?_
  exact r_iret X hL rfl rfl dX2_wishes_21 (by omega) (by omega) ⟨rfl, ⟨b, sd, SS, hPa, loa, hSa, fun q hq => ⟨(hSP q hq).1, Nat.lt_of_lt_of_le (hSP q hq).2 hC.1⟩, by rw [upd_n _ _ (by omega), upd_n _ _ (by omega)]; exact ob, hbg, ⟨a1, a2, a3, a4, ⟨s0p, s1p, s2p, s3p, s4p⟩, lS, ⟨n1, n2, n3, n4, n5, n6, n7, n8, n9, n10⟩, o0, w1.to (fun j hj => upw_w ro 161 v), w2.to (fun j hj => (upd_n ro v (show 165 + j ≠ 161 + s0 by omega)).symm), w3.to (fun j hj => (upd_n ro v (show 169 + j ≠ 161 + s0 by omega)).symm), w4.to (fun j hj => (upd_n ro v (show 173 + j ≠ 161 + s0 by omega)).symm)⟩, of_to (fun j hj => (hofs j hj).keep hC hI) (fun k hk => (upd_n _ _ (by omega)).symm) hn, hinj, by rw [upd_n _ _ (by omega)]; exact h160, hn⟩, hC⟩
theorem vb_X2_wishes : VB yX2_wishes cX2_wishes 4 (some .int) 2 := ⟨q1434, q1435, q100, q1436, ⟨by decide, by decide, by decide +kernel⟩⟩

theorem up_b3 (ro : Nat → Int32) {s0 j : Nat} (v u : Int32) (hs : s0 < 4) (hj : j < 4) : upd (mgr ro) s0 u j = mgr (upd (upd ro (165 + s0) v) (169 + s0) u) j := by
  unfold upd mgr
  dsimp only
  by_cases y : j = s0
  · rw [if_pos y, if_pos (by omega)]
  · rw [if_neg y, if_neg (by omega), if_neg (by omega)]

set_option maxRecDepth 100000 in
set_option maxHeartbeats 4000000 in
theorem ct_X2_bounds (l : Launch) (g : GT) (P I : Nat → Prop) (ro : Nat → Int32) (n : Nat) (x : Nat → Nat) (a : Nat) (s0 : Nat) (v u : Int32) (hI : ∀ q, I q → ¬ P q) (hE0 : ¬ P (gE g)) (hs : s0 < 4) : Ct l g yX2_bounds cX2_bounds 4 (some .int) 14 9 141 [.ref a, .int (nI s0), .int v, .int u] (StR g P I ro n x a) (fun r H H1 => r = some (.int (nI (actL (upd (upd ro (165 + s0) v) (169 + s0) u) n).length)) ∧ StR g P I (upd (upd ro (165 + s0) v) (169 + s0) u) n x a H1 ∧ Chg P H H1) := by
  refine Ct.of (by decide) (Nat.le_of_ble_eq_true rfl) ?_
  intro p e s m args below meth c X hP ls hl
  have hx := X.1
  have hb := X.2.1
  have hKV := X.2.2.2.2.2.2.2.1.1
  have hL : ∀ q ∈ ([] : List Loc), gLo g ≤ q.base := fun _ h => by cases h
  have hst := hP
  obtain ⟨b, sd, SS, hPa, loa, hSa, hSP, ob, hbg, hsd, hofs, hinj, h160, hn⟩ := hst
  obtain ⟨a1, a2, a3, a4, ⟨s0p, s1p, s2p, s3p, s4p⟩, lS, ⟨n1, n2, n3, n4, n5, n6, n7, n8, n9, n10⟩, o0, w1, w2, w3, w4⟩ := hsd
  have hl : lv_has ls 4 [(0, .ref a), (1, .int (nI s0)), (2, .int v), (3, .int u)] := hl
  have hC : Chg P s.heap s.heap := Chg.rfl'
  have m1 : a ≠ a1 := fun z => hSa (z ▸ s1p)
  have m2 : a ≠ a2 := fun z => hSa (z ▸ s2p)
  have m3 : a ≠ a3 := fun z => hSa (z ▸ s3p)
  refine lv_aload_n hx hb dX2_bounds_0 rfl (lv_at hl 0 rfl) ?_
  refine r_get (C := RX2) (T := TX2) (N := 4) (ci := 2) X in_X2 rfl 1 (Nat.le_of_ble_eq_true rfl) q212 (fun _ h => h) ob rfl dX2_bounds_1 ?_
  refine r_getN (C := RX4) (T := TX4) (N := 4) (ci := 4) X in_X4 rfl 1 (Nat.le_of_ble_eq_true rfl) q193 (fun _ h => h) o0 rfl dX2_bounds_4 ?_
  refine lv_iload_n hx hb dX2_bounds_7 rfl (lv_at hl 1 rfl) ?_
  refine lv_iload_n hx hb dX2_bounds_8 rfl (lv_at hl 2 rfl) ?_
  refine r_ist X hL w2 lS.2.2.1 s0 (nI_cl (by omega) rfl) (nI_nn (by omega) rfl) (by omega) dX2_bounds_9 (fun H locs hL h1 h2 => ?_)
  have w2 : Ar g a2 0 4 (upd (mle ro) s0 v) H := h1
  have ob := ob.on h2 (by omega)
  have o0 := o0.on h2 (by omega)
  have w1 := w1.on h2 (by omega)
  have w3 := w3.on h2 (by omega)
  have w4 := w4.on h2 (by omega)
  have hC := hC.trans (h2.chg (hSP _ s2p).1)
  have hbg := hbg.keep (Q := fun q => q = a2) (h2.chg rfl) (fun q hq z => hq.2.2 (z ▸ s2p)) (fun z => hE0 (z ▸ (hSP _ s2p).1))
  refine lv_aload_n hx hb dX2_bounds_10 rfl (lv_at hl 0 rfl) ?_
  refine r_get (C := RX2) (T := TX2) (N := 4) (ci := 2) X in_X2 rfl 1 (Nat.le_of_ble_eq_true rfl) q212 (fun _ h => h) ob rfl dX2_bounds_11 ?_
  refine r_getN (C := RX4) (T := TX4) (N := 4) (ci := 4) X in_X4 rfl 2 (Nat.le_of_ble_eq_true rfl) q196 (fun _ h => h) o0 rfl dX2_bounds_14 ?_
  refine lv_iload_n hx hb dX2_bounds_17 rfl (lv_at hl 1 rfl) ?_
  refine lv_iload_n hx hb dX2_bounds_18 rfl (lv_at hl 3 rfl) ?_
  refine r_ist X hL w3 lS.2.2.2.1 s0 (nI_cl (by omega) rfl) (nI_nn (by omega) rfl) (by omega) dX2_bounds_19 (fun H locs hL h1 h2 => ?_)
  have w3 : Ar g a3 0 4 (upd (mgr ro) s0 u) H := h1
  have ob := ob.on h2 (by omega)
  have o0 := o0.on h2 (by omega)
  have w1 := w1.on h2 (by omega)
  have w2 := w2.on h2 (by omega)
  have w4 := w4.on h2 (by omega)
  have hC := hC.trans (h2.chg (hSP _ s3p).1)
  have hbg := hbg.keep (Q := fun q => q = a3) (h2.chg rfl) (fun q hq z => hq.2.2 (z ▸ s3p)) (fun z => hE0 (z ▸ (hSP _ s3p).1))
  have hst : StR g P I (upd (upd ro (165 + s0) v) (169 + s0) u) n x a H := ⟨b, sd, SS, hPa, loa, hSa, fun q hq => ⟨(hSP q hq).1, Nat.lt_of_lt_of_le (hSP q hq).2 hC.1⟩, by rw [upd_n _ _ (by omega), upd_n _ _ (by omega), upd_n _ _ (by omega), upd_n _ _ (by omega)]; exact ob, hbg, ⟨a1, a2, a3, a4, ⟨s0p, s1p, s2p, s3p, s4p⟩, lS, ⟨n1, n2, n3, n4, n5, n6, n7, n8, n9, n10⟩, o0, w1.to (fun j hj => ((upd_n (upd ro (165 + s0) v) u (show 161 + j ≠ 169 + s0 by omega)).trans (upd_n ro v (show 161 + j ≠ 165 + s0 by omega))).symm), w2.to (fun j hj => (upw_w ro 165 v).trans (upd_n (upd ro (165 + s0) v) u (show 165 + j ≠ 169 + s0 by omega)).symm), w3.to (fun j hj => up_b3 ro v u hs hj), w4.to (fun j hj => ((upd_n (upd ro (165 + s0) v) u (show 173 + j ≠ 169 + s0 by omega)).trans (upd_n ro v (show 173 + j ≠ 165 + s0 by omega))).symm)⟩, of_to (fun j hj => (hofs j hj).keep hC hI) (fun k hk => ((upd_n _ _ (by omega)).trans (upd_n _ _ (by omega))).symm) hn, hinj, by rw [upd_n _ _ (by omega), upd_n _ _ (by omega)]; exact h160, hn⟩
  refine lv_aload_n hx hb dX2_bounds_20 rfl (lv_at hl 0 rfl) ?_
  refine Ct.callV (ct_X2_active l g (upd (upd ro (165 + s0) v) (169 + s0) u) n x a hn) X hL hl vb_X2_active q527 (ob.recv hKV rfl) rfl rfl (Nat.le_of_ble_eq_true rfl) dX2_bounds_21 ⟨Nat.le_of_ble_eq_true rfl, Nat.le_of_ble_eq_true rfl⟩ (by omega) (by omega) hst.q (fun r H locs hL hp => ?_)
  obtain ⟨bb, hbb, rfl, hE1⟩ := hp
  have hst := hst.ext hE1
  have hC := hC.trans hE1.chg
  refine Cp.callV (v := .int (nI _)) (ct_X3_size l g _ _ _ bb ) X hL hl vb_X3_size q564 (hbb.recv hKV) rfl rfl (Nat.le_of_ble_eq_true rfl) dX2_bounds_24 ⟨Nat.le_of_ble_eq_true rfl, Nat.le_of_ble_eq_true rfl⟩ (by omega) (by omega) hbb (fun locs hL => ?_)
  exact r_iret X hL rfl rfl dX2_bounds_27 (by omega) (by omega) ⟨rfl, hst, hC⟩
theorem vb_X2_bounds : VB yX2_bounds cX2_bounds 4 (some .int) 3 := ⟨q1445, q1446, q100, q1447, ⟨by decide, by decide, by decide +kernel⟩⟩
