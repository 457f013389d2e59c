/-! offers made; what may be raised -/
theorem raise_by {D g0 : Nat} (hD : D ≤ 100) (hg : g0 ≤ 99) : mxI (nI 0) (nI D - nI g0) = nI (D - g0) := by
  by_cases h : g0 ≤ D
  · rw [pk_sub h, mxI_n (by omega) (by omega), Nat.max_eq_right (Nat.zero_le _)]
  · have hn := nI_neg (i := D) (j := g0) (by omega) (by omega)
    unfold mxI
    have h00 : (0 : Int32).toInt = 0 := by decide
    rw [if_neg (fun z => by rw [Int32.lt_iff_toInt_lt] at z hn; rw [nI_toInt (by omega)] at z; omega)]
    congr 1; omega
theorem filt_ne {x : Nat → Nat} {ro : Nat → Int32} {n i : Nat} (hinj : ∀ i j, i < n → j < n → x i = x j → i = j) (hi : i < n) : (actL ro n).filter (fun j => !decide (x j = x i)) = (actL ro n).filter (fun j => !(j == i)) := List.filter_congr (fun j hj => by
  have hj2 := List.mem_range.mp (act_in hj)
  by_cases e : j = i
  · rw [e]; simp
  · have : ¬ x j = x i := fun z => e (hinj j i hj2 hi z)
    simp [e, this])
theorem can_b {ro : Nat → Int32} {n i q b : Nat} (h : RO ro n) (hi : i < n) (hq : q < 4) (hb : b ≤ 99) (e : inB (rvI ro i q (b + 1)) (mle ro q) (mgr ro q) = true) : b + 1 ≤ 99 := raise_b h hi hq hb (by rw [rv_eq]; exact e)
theorem trG_s {ro : Nat → Int32} {n i q b : Nat} (hb : b ≤ 99) : trG ro n i q (100 - b) b = if twV ro n i q (rvI ro i q b) then nI b else if inB (rvI ro i q (b + 1)) (mle ro q) (mgr ro q) then trG ro n i q (100 - (b + 1)) (b + 1) else (-1) := by
  rw [show 100 - b = (100 - (b + 1)) + 1 by omega, trG]

set_option maxRecDepth 100000 in
set_option maxHeartbeats 4000000 in
theorem ct_X6_init (l : Launch) (g : GT) (P : Nat → Prop) (a v : Nat) (l1 : gLo g ≤ a) : Ct l g yX6_init cX6_init 2 none 2 0 0 [.ref a, .ref v] (Ob g a 5 [.null]) (fun r H H1 => r = none ∧ Ob g a 5 [.ref v] H1 ∧ On a H H1) := by
  refine Ct.of (by decide) (Nat.le_of_ble_eq_true rfl) ?_
  intro p e s m args below meth c X hP ls hl
  have hx := X.1
  have hb := X.2.1
  have hKV := X.2.2.2.2.2.2.2.1.1
  have hL : ∀ q ∈ ([] : List Loc), gLo g ≤ q.base := fun _ h => by cases h
  have ob := hP
  have hl : lv_has ls 2 [(0, .ref a), (1, .ref v)] := hl
  refine lv_aload_n hx hb dX6_init_0 rfl (lv_at hl 0 rfl) ?_
  refine W.objInit hx hb X.2.2.2.1 (X.2.2.2.2.1 _ q1353) (X.2.2.2.2.1 _ q138) (X.2.2.2.2.1 _ q139) rfl (hl.1.trans X.2.2.1.symm) rfl dX6_init_1 (Nat.le_of_ble_eq_true rfl) (Nat.le_of_ble_eq_true rfl) ?_
  refine lv_aload_n hx hb dX6_init_4 rfl (lv_at hl 0 rfl) ?_
  refine lv_aload_n hx hb dX6_init_5 rfl (lv_at hl 1 rfl) ?_
  refine r_putF (C := RX6) (T := TX6) (N := 1) (ci := 5) X in_X6 tyX6 tyX6_ok nmX6 rfl 0 (Nat.le_of_ble_eq_true rfl) q1354 (fun _ h => h) rfl rfl rfl hL ob l1 rfl rfl (Nat.le_of_ble_eq_true rfl) dX6_init_6 (fun H locs hL h1 h2 => ?_)
  have ob : Ob g a 5 [.ref v] H := h1
  have hon := h2
  exact r_vret X hL dX6_init_9 (by omega) (by omega) ⟨rfl, ob, hon⟩
theorem ib_X6_init : IB yX6_init cX6_init 2 1 := ⟨q1351, q123, q1352, rfl, ⟨by decide, by decide, by decide +kernel⟩⟩

set_option maxRecDepth 100000 in
set_option maxHeartbeats 4000000 in
theorem ct_X6_with (l : Launch) (g : GT) (f : Nat → Int32) (q s0 : Nat) (v : Int32) (hs : s0 < 4) : Ct l g yX6_with cX6_with 4 (some (.object "OfferSky$Offer")) 3 2 5 [.ref q, .int (nI s0), .int v] (OfQ g f q) (fun r H H1 => ∃ q2, (OffR g (fun z => H.size ≤ z) (upd f s0 v) q2 H1 ∧ H.size ≤ q2) ∧ r = some (.ref q2) ∧ Ext H H1) := by
  refine Ct.of (by decide) (Nat.le_of_ble_eq_true rfl) ?_
  intro p e s m args below meth c X hP ls hl
  have hx := X.1
  have hb := X.2.1
  have hKV := X.2.2.2.2.2.2.2.1.1
  have hL : ∀ q ∈ ([] : List Loc), gLo g ≤ q.base := fun _ h => by cases h
  obtain ⟨I0, hq⟩ := hP
  obtain ⟨v0, ov, av⟩ := rdo hq
  have hl : lv_has ls 4 [(0, .ref q), (1, .int (nI s0)), (2, .int v)] := hl
  have hE : Ext s.heap s.heap := Ext.rfl'
  refine lv_aload_n hx hb dX6_with_0 rfl (lv_at hl 0 rfl) ?_
  refine r_get (C := RX6) (T := TX6) (N := 1) (ci := 5) X in_X6 rfl 0 (Nat.le_of_ble_eq_true rfl) q1354 (fun _ h => h) ov rfl dX6_with_1 ?_
  obtain ⟨b1, hb1⟩ : ∃ b, s.heap.size = b := ⟨_, rfl⟩
  have sz_b1 : s.heap.size ≤ b1 := by rw [← hb1]; exact Nat.le_refl _
  have lo_b1 : gLo g ≤ b1 := Nat.le_trans X.2.2.2.2.2.2.2.1.2.1 sz_b1
  have ne_q_b1 : q ≠ b1 := Nat.ne_of_lt (by rw [← hb1]; exact ov.lt)
  have ne_v0_b1 : v0 ≠ b1 := Nat.ne_of_lt (by rw [← hb1]; exact av.lt)
  refine r_clone X hl av q1418 (Nat.le_of_ble_eq_true rfl) (Nat.le_of_ble_eq_true rfl) (by show _ + 1 ≤ 2; omega) (by show _ + 4 ≤ 5; omega) dX6_with_4 (fun H ha_b1 hE_b1 hz_b1 => ?_)
  rw [hb1] at ha_b1 hz_b1 ⊢
  have ov := ov.ext hE_b1
  have av := av.ext hE_b1
  have hE := hE.trans hE_b1
  refine r_castI X ha_b1 q1419 dX6_with_7 ?_
  refine lv_astore_n (lv' := [(3, .ref _), (0, .ref _), (1, .int _), (2, .int _)]) hx hb dX6_with_10 rfl hl (by decide) rfl (fun ls hl => ?_)
  refine lv_aload_n hx hb dX6_with_11 rfl (lv_at hl 0 rfl) ?_
  refine lv_iload_n hx hb dX6_with_12 rfl (lv_at hl 2 rfl) ?_
  refine lv_iload_n hx hb dX6_with_13 rfl (lv_at hl 3 rfl) ?_
  refine r_ist X hL ha_b1 lo_b1 s0 (nI_cl (by omega) rfl) (nI_nn (by omega) rfl) (by omega) dX6_with_14 (fun H locs hL h1 h2 => ?_)
  have ha_b1 : Ar g b1 0 4 (upd f s0 v) H := h1
  have ov := ov.on h2 ne_q_b1
  have av := av.on h2 ne_v0_b1
  have hE := hE.on h2 sz_b1
  obtain ⟨b2, hb2⟩ : ∃ b, H.size = b := ⟨_, rfl⟩
  have sz_b2 : s.heap.size ≤ b2 := by rw [← hb2]; exact hE.1
  have lo_b2 : gLo g ≤ b2 := Nat.le_trans X.2.2.2.2.2.2.2.1.2.1 sz_b2
  have ne_q_b2 : q ≠ b2 := Nat.ne_of_lt (by rw [← hb2]; exact ov.lt)
  have ne_v0_b2 : v0 ≠ b2 := Nat.ne_of_lt (by rw [← hb2]; exact av.lt)
  have ne_b1_b2 : b1 ≠ b2 := Nat.ne_of_lt (by rw [← hb2]; exact ha_b1.lt)
  refine r_new (C := RX6) (T := TX6) (N := 1) (ci := 5) X in_X6 tyX6 tyX6_ok q1420 q1349 q123 rfl (fs := [.null]) (fun j hj => by rcases j with _ | _ | _ | _ | _ | j <;> first | rfl | omega) (by show _ + 1 ≤ 2; omega) (by show _ + 1 ≤ 5; omega) dX6_with_15 (fun H ha_b2 hE_b2 hz_b2 => ?_)
  rw [hb2] at ha_b2 hz_b2 ⊢
  have ov := ov.ext hE_b2
  have av := av.ext hE_b2
  have ha_b1 := ha_b1.ext hE_b2
  have hE := hE.trans hE_b2
  refine lv_dup hx hb dX6_with_18 rfl ?_
  refine lv_aload_n hx hb dX6_with_19 rfl (lv_at hl 0 rfl) ?_
  refine Ct.callI (ct_X6_init l g (fun _ => True) b2 b1 lo_b2) X hL hl ib_X6_init q1421 rfl rfl (Nat.le_of_ble_eq_true rfl) dX6_with_20 ⟨Nat.le_of_ble_eq_true rfl, Nat.le_of_ble_eq_true rfl⟩ (by omega) (by omega) ha_b2 (fun r H locs hL hp => ?_)
  obtain ⟨rfl, ha_b2, hon⟩ := hp
  have hE := hE.on hon sz_b2
  have ha_b1 := ha_b1.on hon ne_b1_b2
  exact r_aret X hL rfl (Or.inl ⟨_, rfl⟩) (Or.inr ⟨_, rfl⟩) dX6_with_23 (by omega) (by omega) ⟨b2, ⟨⟨b1, sz_b2, sz_b1, lo_b2, lo_b1, ha_b2, ha_b1⟩, sz_b2⟩, rfl, hE⟩
theorem vb_X6_with : VB yX6_with cX6_with 4 (some (.object "OfferSky$Offer")) 2 := ⟨q1415, q1416, q123, q1417, ⟨by decide, by decide, by decide +kernel⟩⟩

set_option maxRecDepth 100000 in
set_option maxHeartbeats 4000000 in
theorem ct_X2_betterValue (l : Launch) (g : GT) (ro : Nat → Int32) (a : Nat) (f : Nat → Int32) (q s0 : Nat) (dv : Int32) (hs : s0 < 4) : Ct l g yX2_betterValue cX2_betterValue 4 (some .int) 1 0 0 [.ref a, .ref q, .int (nI s0), .int dv] (fun H => SdQ g ro a H ∧ OfQ g f q H) (fun r H H1 => r = some (.int (f s0 + (if mw ro s0 = nI 1 then dv else -dv))) ∧ H1 = H) := by
  refine Ct.of (by decide) (Nat.le_of_ble_eq_true rfl) ?_
  intro p e s m args below meth c X hP ls hl
  have hx := X.1
  have hb := X.2.1
  have hKV := X.2.2.2.2.2.2.2.1.1
  have hL : ∀ q ∈ ([] : List Loc), gLo g ≤ q.base := fun _ h => by cases h
  obtain ⟨⟨sb, sd, PS, v1, v2, ob, hsd⟩, I0, hq⟩ := hP
  obtain ⟨v0, ov, av⟩ := rdo hq
  obtain ⟨a1, a2, a3, a4, o0, w1, w2, w3, w4⟩ := rds hsd
  have hl : lv_has ls 4 [(0, .ref a), (1, .ref q), (2, .int (nI s0)), (3, .int dv)] := hl
  refine lv_aload_n hx hb dX2_betterValue_0 rfl (lv_at hl 1 rfl) ?_
  refine r_getN (C := RX6) (T := TX6) (N := 1) (ci := 5) X in_X6 rfl 0 (Nat.le_of_ble_eq_true rfl) q1356 (fun _ h => h) ov rfl dX2_betterValue_1 ?_
  refine lv_iload_n hx hb dX2_betterValue_4 rfl (lv_at hl 2 rfl) ?_
  refine r_ild X av s0 (nI_cl (by omega) rfl) (nI_nn (by omega) rfl) (by omega) dX2_betterValue_5 ?_
  refine lv_aload_n hx hb dX2_betterValue_6 rfl (lv_at hl 0 rfl) ?_
  refine r_get (C := RX2) (T := TX2) (N := 4) (ci := 2) X in_X2 rfl 1 (Nat.le_of_ble_eq_true rfl) q212 (fun _ h => h) ob rfl dX2_betterValue_7 ?_
  refine r_getN (C := RX4) (T := TX4) (N := 4) (ci := 4) X in_X4 rfl 0 (Nat.le_of_ble_eq_true rfl) q190 (fun _ h => h) o0 rfl dX2_betterValue_10 ?_
  refine lv_iload_n hx hb dX2_betterValue_13 rfl (lv_at hl 2 rfl) ?_
  refine r_ild X w1 s0 (nI_cl (by omega) rfl) (nI_nn (by omega) rfl) (by omega) dX2_betterValue_14 ?_
  refine lv_iconst (v := nI 1) hx hb dX2_betterValue_15 (by decide) ?_
  refine lv_icmp_ne (tgt := 23) hx hb dX2_betterValue_16 (by decide) (fun c_16 => ?_) (fun c_16 => ?_)
  ·
    refine lv_iload_n hx hb dX2_betterValue_23 rfl (lv_at hl 3 rfl) ?_
    refine lv_ineg hx hb dX2_betterValue_24 ?_
    refine lv_iadd hx hb dX2_betterValue_25 ?_
    exact r_iret X hL rfl rfl dX2_betterValue_26 (by omega) (by omega) ⟨v_i (by simp [c_16]), rfl⟩
  ·
    refine lv_iload_n hx hb dX2_betterValue_19 rfl (lv_at hl 3 rfl) ?_
    refine lv_goto (tgt := 25) hx hb dX2_betterValue_20 (by decide) ?_
    refine lv_iadd hx hb dX2_betterValue_25 ?_
    exact r_iret X hL rfl rfl dX2_betterValue_26 (by omega) (by omega) ⟨v_i (by simp [c_16]), rfl⟩
theorem vb_X2_betterValue : VB yX2_betterValue cX2_betterValue 4 (some .int) 3 := ⟨q1744, qs51, q100, q1745, ⟨by decide, by decide, by decide +kernel⟩⟩

set_option maxRecDepth 100000 in
set_option maxHeartbeats 4000000 in
theorem ct_X2_canRaise (l : Launch) (g : GT) (ro : Nat → Int32) (n : Nat) (x : Nat → Nat) (a : Nat) (i s0 : Nat) (hn : n ≤ 40) (hw : WO (mw ro)) (hi : i < n) (hs : s0 < 4) : Ct l g yX2_canRaise cX2_canRaise 3 (some .boolean) 4 0 0 [.ref a, .ref (x i), .int (nI s0)] (fun H => StQ g ro n x a H) (fun r H H1 => r = some (.int (bI (cB ro i && matB (mw ro) s0))) ∧ H1 = H) := by
  refine Ct.of (by decide) (Nat.le_of_ble_eq_true rfl) ?_
  intro p e s m args below meth c X hP ls hl
  have hx := X.1
  have hb := X.2.1
  have hKV := X.2.2.2.2.2.2.2.1.1
  have hL : ∀ q ∈ ([] : List Loc), gLo g ≤ q.base := fun _ h => by cases h
  have hst := hP
  have hst9 := hst
  obtain ⟨sb, sd, PB, PS, ob, hbg, hsd, hof, hinj⟩ := hst9
  have hl : lv_has ls 3 [(0, .ref a), (1, .ref (x i)), (2, .int (nI s0))] := hl
  have hrl : (List.range n).length ≤ 40 := by rw [rng_len]; exact hn
  have hqi := hof i (rng_mem hi)
  obtain ⟨Ii, hqi2⟩ := id hqi
  refine lv_aload_n hx hb dX2_canRaise_0 rfl (lv_at hl 0 rfl) ?_
  refine r_get (C := RX2) (T := TX2) (N := 4) (ci := 2) X in_X2 rfl 1 (Nat.le_of_ble_eq_true rfl) q212 (fun _ h => h) ob rfl dX2_canRaise_1 ?_
  refine lv_aload_n hx hb dX2_canRaise_4 rfl (lv_at hl 1 rfl) ?_
  refine Cp.callV (v := .int (bI (couB (mle ro) (mgr ro) (mv ro i)))) (ct_X4_counts l g PS ro sd Ii (mv ro i) (x i) ) X hL hl vb_X4_counts q534 (hsd.recv hKV) rfl rfl (Nat.le_of_ble_eq_true rfl) dX2_canRaise_5 ⟨Nat.le_of_ble_eq_true rfl, Nat.le_of_ble_eq_true rfl⟩ (by omega) (by omega) ⟨hsd, hqi2⟩ (fun locs hL => ?_)
  refine b_ifeq (tgt := 26) X dX2_canRaise_8 (by decide) (fun c_8 => ?_) (fun c_8 => ?_)
  ·
    refine lv_iconst (v := nI 0) hx hb dX2_canRaise_26 (by decide) ?_
    exact r_iret X hL rfl rfl dX2_canRaise_27 (by omega) (by omega) ⟨v_f (by rw [show cB ro i = false from c_8]; rfl), rfl⟩
  ·
    refine lv_aload_n hx hb dX2_canRaise_11 rfl (lv_at hl 0 rfl) ?_
    refine r_get (C := RX2) (T := TX2) (N := 4) (ci := 2) X in_X2 rfl 1 (Nat.le_of_ble_eq_true rfl) q212 (fun _ h => h) ob rfl dX2_canRaise_12 ?_
    refine lv_iload_n hx hb dX2_canRaise_15 rfl (lv_at hl 2 rfl) ?_
    refine Cp.callV (v := .int (bI (matB (mw ro) s0))) (ct_X4_matters l g PS ro sd s0 hw hs) X hL hl vb_X4_matters q1277 (hsd.recv hKV) rfl rfl (Nat.le_of_ble_eq_true rfl) dX2_canRaise_16 ⟨Nat.le_of_ble_eq_true rfl, Nat.le_of_ble_eq_true rfl⟩ (by omega) (by omega) hsd (fun locs hL => ?_)
    refine b_ifeq (tgt := 26) X dX2_canRaise_19 (by decide) (fun c_19 => ?_) (fun c_19 => ?_)
    ·
      refine lv_iconst (v := nI 0) hx hb dX2_canRaise_26 (by decide) ?_
      exact r_iret X hL rfl rfl dX2_canRaise_27 (by omega) (by omega) ⟨v_f (by rw [c_19, Bool.and_false]), rfl⟩
    ·
      refine lv_iconst (v := nI 1) hx hb dX2_canRaise_22 (by decide) ?_
      refine lv_goto (tgt := 27) hx hb dX2_canRaise_23 (by decide) ?_
      exact r_iret X hL rfl rfl dX2_canRaise_27 (by omega) (by omega) ⟨v_t (by rw [show cB ro i = true from c_8, c_19]; rfl), rfl⟩
theorem vb_X2_canRaise : VB yX2_canRaise cX2_canRaise 3 (some .boolean) 2 := ⟨q1736, qs49, q100, q1737, ⟨by decide, by decide, by decide +kernel⟩⟩

set_option maxRecDepth 100000 in
set_option maxHeartbeats 4000000 in
theorem ct_X2_isToldWith (l : Launch) (g : GT) (ro : Nat → Int32) (n : Nat) (x : Nat → Nat) (a : Nat) (i s0 : Nat) (b : Nat) (hn : n ≤ 40) (hw : WO (mw ro)) (hi : i < n) (hs : s0 < 4) : Ct l g yX2_isToldWith cX2_isToldWith 6 (some .boolean) 14 20 290 [.ref a, .ref (x i), .int (nI s0), .int (nI b)] (fun H => StQ g ro n x a H) (fun r H H1 => r = some (.int (bI (twV ro n i s0 (rvI ro i s0 b)))) ∧ Ext H H1) := by
  refine Ct.ofN (by decide) (Nat.le_of_ble_eq_true rfl) ?_
  intro p e s m args below meth c X hnm hP ls hl
  have hx := X.1
  have hb := X.2.1
  have hKV := X.2.2.2.2.2.2.2.1.1
  have hL : ∀ q ∈ ([] : List Loc), gLo g ≤ q.base := fun _ h => by cases h
  have hst := hP
  have hst9 := hst
  obtain ⟨sb, sd, PB, PS, ob, hbg, hsd, hof, hinj⟩ := hst9
  have hl : lv_has ls 6 [(0, .ref a), (1, .ref (x i)), (2, .int (nI s0)), (3, .int (nI b))] := hl
  have hrl : (List.range n).length ≤ 40 := by rw [rng_len]; exact hn
  have hqi := hof i (rng_mem hi)
  have hE : Ext s.heap s.heap := Ext.rfl'
  have ob0 := ob
  have hst0 := hst
  have hof0 := hof
  have hbg0 := hbg
  have hsd0 := hsd
  refine lv_aload_n hx hb dX2_isToldWith_0 rfl (lv_at hl 1 rfl) ?_
  refine lv_iload_n hx hb dX2_isToldWith_1 rfl (lv_at hl 2 rfl) ?_
  refine lv_aload_n hx hb dX2_isToldWith_2 rfl (lv_at hl 0 rfl) ?_
  refine lv_aload_n hx hb dX2_isToldWith_3 rfl (lv_at hl 1 rfl) ?_
  refine lv_iload_n hx hb dX2_isToldWith_4 rfl (lv_at hl 2 rfl) ?_
  refine lv_iload_n hx hb dX2_isToldWith_5 rfl (lv_at hl 3 rfl) ?_
  refine Cp.callV (v := .int (rvI ro i s0 b)) (ct_X2_betterValue l g ro a (mv ro i) (x i) s0 (nI b) hs) X hL hl vb_X2_betterValue q1742 (hst.recv hKV) rfl rfl (Nat.le_of_ble_eq_true rfl) dX2_isToldWith_6 ⟨Nat.le_of_ble_eq_true rfl, Nat.le_of_ble_eq_true rfl⟩ (by omega) (by omega) ⟨hst.sd, hqi⟩ (fun locs hL => ?_)
  refine Ct.callV (ct_X6_with l g (mv ro i) (x i) s0 (rvI ro i s0 b) hs) X hL hl vb_X6_with q1414 (hqi.ob.elim (fun _ z => z.recv hKV rfl)) rfl rfl (Nat.le_of_ble_eq_true rfl) dX2_isToldWith_9 ⟨Nat.le_of_ble_eq_true rfl, Nat.le_of_ble_eq_true rfl⟩ (by omega) (by omega) hqi (fun r H locs hL hp => ?_)
  obtain ⟨q2, ⟨hq2, hq2l⟩, rfl, hE1⟩ := hp
  have ob := ob.ext hE1
  have hst := hst.ext hE1
  have hof := hof.ext hE1
  have hbg := hbg.ext hE1
  have hsd := hsd.ext hE1
  have hqi := hqi.ext hE1
  have hE := hE.trans hE1
  have hqn : OfQ g (upd (mv ro i) s0 (rvI ro i s0 b)) q2 H := ⟨_, hq2⟩
  refine lv_astore (lv' := [(4, .ref _), (0, .ref _), (1, .ref _), (2, .int _), (3, .int _)]) hx hb dX2_isToldWith_12 hl (by decide) rfl (fun ls hl => ?_)
  refine lv_aload_n hx hb dX2_isToldWith_14 rfl (lv_at hl 1 rfl) ?_
  refine Ct.callV (ct_X2_active l g ro n x a hn) X hL hl vb_X2_active q527 (hst.recv hKV) rfl rfl (Nat.le_of_ble_eq_true rfl) dX2_isToldWith_15 ⟨Nat.le_of_ble_eq_true rfl, Nat.le_of_ble_eq_true rfl⟩ (by omega) (by omega) hst (fun r H locs hL hp => ?_)
  obtain ⟨bb, hbb, rfl, hE1⟩ := hp
  have ob := ob.ext hE1
  have hst := hst.ext hE1
  have hof := hof.ext hE1
  have hbg := hbg.ext hE1
  have hsd := hsd.ext hE1
  have hqi := hqi.ext hE1
  have hqn := hqn.ext hE1
  have hE := hE.trans hE1
  have hqbb : BgQ g x (actL ro n) bb H := ⟨_, hbb⟩
  have hla : (actL ro n).length ≤ 40 := act_len hn
  have hofa : OfL g ro x (actL ro n) H := hof.sub (fun i hi => act_in hi)
  refine lv_aload_n hx hb dX2_isToldWith_18 rfl (lv_at hl 2 rfl) ?_
  obtain ⟨b1, hb1⟩ : ∃ b, H.size = b := ⟨_, rfl⟩
  have sz_b1 : s.heap.size ≤ b1 := by rw [← hb1]; exact hE.1
  have lo_b1 : gLo g ≤ b1 := Nat.le_trans X.2.2.2.2.2.2.2.1.2.1 sz_b1
  have ne_a_b1 : a ≠ b1 := Nat.ne_of_lt (by rw [← hb1]; exact ob.lt)
  refine r_indy (k := 16) (σ := lm16s) X hnm hl lm16q [.ref (x i)] [.object "OfferSky$Offer"] (lm16 hKV X.2.2.2.2.1).1.2 rfl rfl rfl (by intro i t v h1 h2; rcases i with _ | _ | _ | i <;> simp at h1 h2 <;> (try (subst h1; subst h2; rfl))) rfl (Nat.le_of_ble_eq_true rfl) (by show _ + 1 ≤ 20; omega) (by show _ + 1 ≤ 290; omega) dX2_isToldWith_19 (fun H ha_b1 hE_b1 hz_b1 => ?_)
  rw [hb1] at ha_b1 hz_b1 ⊢
  have ob := ob.ext hE_b1
  have hbg := hbg.ext hE_b1
  have hst := hst.ext hE_b1
  have hof := hof.ext hE_b1
  have hsd := hsd.ext hE_b1
  have hbb := hbb.ext hE_b1
  have hqbb := hqbb.ext hE_b1
  have hofa := hofa.ext hE_b1
  rw [show ([.ref (x i)] : List Value).length = 1 from rfl]
  have hE := hE.trans hE_b1
  refine Ct.callV (ct_X3_those l g _ x (actL ro n) bb b1 (fun j => !decide (x j = x i)) hla) X hL hl vb_X3_those q545 (hbb.recv hKV) rfl rfl (Nat.le_of_ble_eq_true rfl) dX2_isToldWith_24 ⟨Nat.le_of_ble_eq_true rfl, Nat.le_of_ble_eq_true rfl⟩ (by omega) (by omega) ⟨hbb, hofa.el, fun j hj H1 hE1 => ru_16 (ha_b1.ext hE1) ((hofa j hj).ext hE1)⟩ (fun r H locs hL hp => ?_)
  obtain ⟨rb, hrb, rfl, hE1⟩ := hp
  rw [filt_ne hinj hi] at hrb
  have ob := ob.ext hE1
  have hst := hst.ext hE1
  have hof := hof.ext hE1
  have hbg := hbg.ext hE1
  have hsd := hsd.ext hE1
  have hE := hE.trans hE1
  have hqn := (hqn.ext hE_b1).ext hE1
  have hrl2 : ((actL ro n).filter (fun j => !(j == i))).length ≤ 40 := Nat.le_trans (List.length_filter_le _ _) hla
  refine lv_astore (lv' := [(5, .ref _), (4, .ref _), (0, .ref _), (1, .ref _), (2, .int _), (3, .int _)]) hx hb dX2_isToldWith_27 hl (by decide) rfl (fun ls hl => ?_)
  refine lv_aload_n hx hb dX2_isToldWith_29 rfl (lv_at hl 2 rfl) ?_
  refine lv_aload hx hb dX2_isToldWith_30 (lv_at hl 1 rfl) ?_
  refine lv_aload hx hb dX2_isToldWith_32 (lv_at hl 0 rfl) ?_
  refine lv_bipush (v := nI 15) hx hb dX2_isToldWith_34 (by decide) ?_
  refine Cp.callV (v := .int (bI (btV ro (nI 15) ((actL ro n).filter (fun j => !(j == i))) (upd (mv ro i) s0 (rvI ro i s0 b))))) (ct_X2_isBeaten l g ro a (upd (mv ro i) s0 (rvI ro i s0 b)) q2 x ((actL ro n).filter (fun j => !(j == i))) rb (nI 15) hw hrl2) X hL hl vb_X2_isBeaten q560 (hst.recv hKV) rfl rfl (Nat.le_of_ble_eq_true rfl) dX2_isToldWith_36 ⟨Nat.le_of_ble_eq_true rfl, Nat.le_of_ble_eq_true rfl⟩ (by omega) (by omega) ⟨hst.sd, hqn, ⟨_, hrb⟩, hof.sub (fun j hj => act_in (List.mem_filter.mp hj).1)⟩ (fun locs hL => ?_)
  refine b_ifne (tgt := 46) X dX2_isToldWith_39 (by decide) (fun c_39 => ?_) (fun c_39 => ?_)
  ·
    refine lv_iconst (v := nI 0) hx hb dX2_isToldWith_46 (by decide) ?_
    exact r_iret X hL rfl rfl dX2_isToldWith_47 (by omega) (by omega) ⟨v_f (by unfold twV; rw [c_39]; rfl), hE⟩
  ·
    refine lv_iconst (v := nI 1) hx hb dX2_isToldWith_42 (by decide) ?_
    refine lv_goto (tgt := 47) hx hb dX2_isToldWith_43 (by decide) ?_
    exact r_iret X hL rfl rfl dX2_isToldWith_47 (by omega) (by omega) ⟨v_t (by unfold twV; rw [c_39]; rfl), hE⟩
theorem vb_X2_isToldWith : VB yX2_isToldWith cX2_isToldWith 6 (some .boolean) 3 := ⟨q1740, qs50, q100, q1741, ⟨by decide, by decide, by decide +kernel⟩⟩

set_option maxRecDepth 100000 in
set_option maxHeartbeats 4000000 in
theorem ct_X2_triedRaise (l : Launch) (g : GT) (ro : Nat → Int32) (n : Nat) (x : Nat → Nat) (a : Nat) (i s0 : Nat) (hn : n ≤ 40) (hw : WO (mw ro)) (hR : RO ro n) (hi : i < n) (hs : s0 < 4) : Ct l g yX2_triedRaise cX2_triedRaise 5 (some .int) 15 2020 29400 [.ref a, .ref (x i), .int (nI s0)] (fun H => StQ g ro n x a H) (fun r H H1 => r = some (.int (if cB ro i && matB (mw ro) s0 then trG ro n i s0 100 0 else (-1))) ∧ Ext H H1) := by
  refine Ct.of (by decide) (Nat.le_of_ble_eq_true rfl) ?_
  intro p e s m args below meth c X hP ls hl
  have hx := X.1
  have hb := X.2.1
  have hKV := X.2.2.2.2.2.2.2.1.1
  have hL : ∀ q ∈ ([] : List Loc), gLo g ≤ q.base := fun _ h => by cases h
  have hst := hP
  have hst9 := hst
  obtain ⟨sb, sd, PB, PS, ob, hbg, hsd, hof, hinj⟩ := hst9
  have hl : lv_has ls 5 [(0, .ref a), (1, .ref (x i)), (2, .int (nI s0))] := hl
  have hrl : (List.range n).length ≤ 40 := by rw [rng_len]; exact hn
  have hE : Ext s.heap s.heap := Ext.rfl'
  have ob0 := ob
  have hst0 := hst
  have hof0 := hof
  have hbg0 := hbg
  have hsd0 := hsd
  refine lv_iconst (v := nI 0) hx hb dX2_triedRaise_0 (by decide) ?_
  refine lv_istore_n (lv' := [(3, .int _), (0, .ref _), (1, .ref _), (2, .int _)]) hx hb dX2_triedRaise_1 rfl hl (by decide) rfl (fun ls hl => ?_)
  refine lv_aload_n hx hb dX2_triedRaise_2 rfl (lv_at hl 1 rfl) ?_
  refine lv_aload_n hx hb dX2_triedRaise_3 rfl (lv_at hl 2 rfl) ?_
  refine lv_iload_n hx hb dX2_triedRaise_4 rfl (lv_at hl 3 rfl) ?_
  refine Cp.callV (v := .int (bI (cB ro i && matB (mw ro) s0))) (ct_X2_canRaise l g ro n x a i s0 hn hw hi hs) X hL hl vb_X2_canRaise q1734 (hst.recv hKV) rfl rfl (Nat.le_of_ble_eq_true rfl) dX2_triedRaise_5 ⟨Nat.le_of_ble_eq_true rfl, Nat.le_of_ble_eq_true rfl⟩ (by omega) (by omega) hst (fun locs hL => ?_)
  refine lv_istore (lv' := [(4, .int _), (3, .int _), (0, .ref _), (1, .ref _), (2, .int _)]) hx hb dX2_triedRaise_8 hl (by decide) rfl (fun ls hl => ?_)
  have L10 : ∀ (fuel : Nat) (b : Nat) (can : Bool), 101 - b < fuel → (b ≤ 100) → (can = true → b ≤ 99 ∧ (if cB ro i && matB (mw ro) s0 then trG ro n i s0 100 0 else (-1)) = trG ro n i s0 (100 - b) b) → (can = false → (if cB ro i && matB (mw ro) s0 then trG ro n i s0 100 0 else (-1)) = (-1)) → ∀ (H : Heap), Ext s.heap H → ∀ (locs : List Loc), (∀ q ∈ locs, gLo g ≤ q.base) → ∀ (ls : Array Slot), lv_has ls 5 [(0, .ref a), (1, .ref (x i)), (2, .int (nI s0)), (3, .int (nI b)), (4, .int (bI can))] → W p l e (rmL 15 2020 29400) s m args below meth c H locs (20 * b) (290 * b) (MQ below (Qcg (fun r H H1 => r = some (.int (if cB ro i && matB (mw ro) s0 then trG ro n i s0 100 0 else (-1))) ∧ Ext H H1)) args s 2020 29400 (fre g)) (F0 m 10 ls []) := by
    intro fuel
    induction fuel with
    | zero => intro b can hfu; exact absurd hfu (Nat.not_lt_zero _)
    | succ fuel ih10 =>
      intro b can hfu hb1 ht hf H hE locs hL ls hl
      have ob := ob0.ext hE
      have hst := hst0.ext hE
      have hof := hof0.ext hE
      have hbg := hbg0.ext hE
      have hsd := hsd0.ext hE
      have hqi := hof i (rng_mem hi)
      refine lv_iload hx hb dX2_triedRaise_10 (lv_at hl 4 rfl) ?_
      refine b_ifeq (tgt := 48) X dX2_triedRaise_12 (by decide) (fun c_12 => ?_) (fun c_12 => ?_)
      ·
        refine lv_iload hx hb dX2_triedRaise_48 (lv_at hl 4 rfl) ?_
        refine b_ifeq (tgt := 57) X dX2_triedRaise_50 (by decide) (fun c_50 => ?_) (fun c_50 => ?_)
        ·
          refine lv_iconst (v := (-1)) hx hb dX2_triedRaise_57 (by decide) ?_
          exact r_iret X hL rfl rfl dX2_triedRaise_58 (by omega) (by omega) ⟨v_i (by first | exact (hf c_50).symm | (rw [(ht c_50).2, trG_s (ht c_50).1, c_22]; rfl) | exact absurd c_50 (by rw [c_12]; decide)), hE⟩
        ·
          refine lv_iload_n hx hb dX2_triedRaise_53 rfl (lv_at hl 3 rfl) ?_
          refine lv_goto (tgt := 58) hx hb dX2_triedRaise_54 (by decide) ?_
          exact r_iret X hL rfl rfl dX2_triedRaise_58 (by omega) (by omega) ⟨v_i (by first | exact (hf c_50).symm | (rw [(ht c_50).2, trG_s (ht c_50).1, c_22]; rfl) | exact absurd c_50 (by rw [c_12]; decide)), hE⟩
      ·
        refine lv_aload_n hx hb dX2_triedRaise_15 rfl (lv_at hl 0 rfl) ?_
        refine lv_aload_n hx hb dX2_triedRaise_16 rfl (lv_at hl 1 rfl) ?_
        refine lv_iload_n hx hb dX2_triedRaise_17 rfl (lv_at hl 2 rfl) ?_
        refine lv_iload_n hx hb dX2_triedRaise_18 rfl (lv_at hl 3 rfl) ?_
        have hb99 := (ht c_12).1
        refine Ct.callV (ct_X2_isToldWith l g ro n x a i s0 b hn hw hi hs) X hL hl vb_X2_isToldWith q1738 (hst.recv hKV) rfl rfl (Nat.le_of_ble_eq_true rfl) dX2_triedRaise_19 ⟨Nat.le_of_ble_eq_true rfl, Nat.le_of_ble_eq_true rfl⟩ (by omega) (by omega) hst (fun r H locs hL hp => ?_)
        obtain ⟨rfl, hE1⟩ := hp
        have ob := ob.ext hE1
        have hst := hst.ext hE1
        have hof := hof.ext hE1
        have hbg := hbg.ext hE1
        have hsd := hsd.ext hE1
        have hqi := hqi.ext hE1
        have hE := hE.trans hE1
        refine b_ifne (tgt := 48) X dX2_triedRaise_22 (by decide) (fun c_22 => ?_) (fun c_22 => ?_)
        ·
          refine lv_iload hx hb dX2_triedRaise_48 (lv_at hl 4 rfl) ?_
          refine b_ifeq (tgt := 57) X dX2_triedRaise_50 (by decide) (fun c_50 => ?_) (fun c_50 => ?_)
          ·
            refine lv_iconst (v := (-1)) hx hb dX2_triedRaise_57 (by decide) ?_
            exact r_iret X hL rfl rfl dX2_triedRaise_58 (by omega) (by omega) ⟨v_i (by first | exact (hf c_50).symm | (rw [(ht c_50).2, trG_s (ht c_50).1, c_22]; rfl) | exact absurd c_50 (by rw [c_12]; decide)), hE⟩
          ·
            refine lv_iload_n hx hb dX2_triedRaise_53 rfl (lv_at hl 3 rfl) ?_
            refine lv_goto (tgt := 58) hx hb dX2_triedRaise_54 (by decide) ?_
            exact r_iret X hL rfl rfl dX2_triedRaise_58 (by omega) (by omega) ⟨v_i (by first | exact (hf c_50).symm | (rw [(ht c_50).2, trG_s (ht c_50).1, c_22]; rfl) | exact absurd c_50 (by rw [c_12]; decide)), hE⟩
        ·
          refine lv_iinc (v := nI (b + 1)) (lv' := [(3, .int _), (0, .ref _), (1, .ref _), (2, .int _), (4, .int _)]) hx hb dX2_triedRaise_25 hl (k := 3) rfl (nI_iinc _ 1 rfl) (by decide) rfl (fun ls hl => ?_)
          refine lv_aload_n hx hb dX2_triedRaise_28 rfl (lv_at hl 1 rfl) ?_
          refine r_get (C := RX2) (T := TX2) (N := 4) (ci := 2) X in_X2 rfl 1 (Nat.le_of_ble_eq_true rfl) q212 (fun _ h => h) ob rfl dX2_triedRaise_29 ?_
          refine lv_iload_n hx hb dX2_triedRaise_32 rfl (lv_at hl 3 rfl) ?_
          refine lv_aload_n hx hb dX2_triedRaise_33 rfl (lv_at hl 1 rfl) ?_
          refine lv_aload_n hx hb dX2_triedRaise_34 rfl (lv_at hl 2 rfl) ?_
          refine lv_iload_n hx hb dX2_triedRaise_35 rfl (lv_at hl 3 rfl) ?_
          refine lv_iload_n hx hb dX2_triedRaise_36 rfl (lv_at hl 0 rfl) ?_
          refine Cp.callV (v := .int (rvI ro i s0 (b + 1))) (ct_X2_betterValue l g ro a (mv ro i) (x i) s0 (nI (b + 1)) hs) X hL hl vb_X2_betterValue q1742 (hst.recv hKV) rfl rfl (Nat.le_of_ble_eq_true rfl) dX2_triedRaise_37 ⟨Nat.le_of_ble_eq_true rfl, Nat.le_of_ble_eq_true rfl⟩ (by omega) (by omega) ⟨hst.sd, hqi⟩ (fun locs hL => ?_)
          refine Cp.callV (v := .int (bI (inB (rvI ro i s0 (b + 1)) (mle ro s0) (mgr ro s0)))) (ct_X4_isWithin l g PS ro sd s0 (rvI ro i s0 (b + 1)) hs) X hL hl vb_X4_isWithin q1748 (hsd.recv hKV) rfl rfl (Nat.le_of_ble_eq_true rfl) dX2_triedRaise_40 ⟨Nat.le_of_ble_eq_true rfl, Nat.le_of_ble_eq_true rfl⟩ (by omega) (by omega) hsd (fun locs hL => ?_)
          refine lv_istore (lv' := [(4, .int _), (3, .int _), (0, .ref _), (1, .ref _), (2, .int _)]) hx hb dX2_triedRaise_43 hl (by decide) rfl (fun ls hl => ?_)
          refine lv_goto (tgt := 10) hx hb dX2_triedRaise_45 (by decide) ?_
          exact W.widen (by have := (ht c_12).1; omega) (by have := (ht c_12).1; omega) (ih10 (b + 1) _ (by have := (ht c_12).1; omega) (by have := (ht c_12).1; omega) (fun z => ⟨can_b hR hi hs (ht c_12).1 z, by rw [(ht c_12).2, trG_s (ht c_12).1, c_22, if_neg (by decide), if_pos z]⟩) (fun z => by rw [(ht c_12).2, trG_s (ht c_12).1, c_22, if_neg (by decide), z]; rfl) _ hE _ hL ls (lv_sub hl [2, 3, 4, 1, 0] rfl))
  exact W.widen (by omega) (by omega) (L10 102 0 _ (by omega) (by omega) (fun z => ⟨by omega, by rw [z]; rfl⟩) (fun z => by rw [z]; rfl) _ hE _ hL ls (lv_sub hl [2, 3, 4, 1, 0] rfl))
theorem vb_X2_triedRaise : VB yX2_triedRaise cX2_triedRaise 5 (some .int) 2 := ⟨q1731, q1732, q100, q1733, ⟨by decide, by decide, by decide +kernel⟩⟩
