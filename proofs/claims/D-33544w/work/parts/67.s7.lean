set_option maxRecDepth 100000 in
set_option maxHeartbeats 4000000 in
theorem ct_X2_toldBy (l : Launch) (g : GT) (ro : Nat → Int32) (n : Nat) (x : Nat → Nat) (a : Nat) (t : Int32) (hn : n ≤ 40) (hw : WO (mw ro)) : Ct l g yX2_toldBy cX2_toldBy 3 (some .int) 14 10 144 [.ref a, .int t] (fun H => StQ g ro n x a H) (fun r H H1 => r = some (.int (nI ((actL ro n).filter (fun i => !isBt ro t (actL ro n) i)).length)) ∧ Ext H H1) := by
  refine Ct.ofN (by decide) (Nat.le_of_ble_eq_true rfl) ?_
  intro p e s m args below meth c X hnm hP ls hl
  have hx := X.1
  have hb := X.2.1
  have hKV := X.2.2.2.2.2.2.2.1.1
  have hL : ∀ q ∈ ([] : List Loc), gLo g ≤ q.base := fun _ h => by cases h
  have hst := hP
  have hst9 := hst
  obtain ⟨sb, sd, PB, PS, ob, hbg, hsd, hof, hinj⟩ := hst9
  have hl : lv_has ls 3 [(0, .ref a), (1, .int t)] := hl
  have hrl : (List.range n).length ≤ 40 := by rw [rng_len]; exact hn
  have hE : Ext s.heap s.heap := Ext.rfl'
  have ob0 := ob
  have hst0 := hst
  have hof0 := hof
  have hbg0 := hbg
  have hsd0 := hsd
  refine lv_aload_n hx hb dX2_toldBy_0 rfl (lv_at hl 0 rfl) ?_
  refine Ct.callV (ct_X2_active l g ro n x a hn) X hL hl vb_X2_active q527 (hst.recv hKV) rfl rfl (Nat.le_of_ble_eq_true rfl) dX2_toldBy_1 ⟨Nat.le_of_ble_eq_true rfl, Nat.le_of_ble_eq_true rfl⟩ (by omega) (by omega) hst (fun r H locs hL hp => ?_)
  obtain ⟨bb, hbb, rfl, hE1⟩ := hp
  have ob := ob.ext hE1
  have hst := hst.ext hE1
  have hof := hof.ext hE1
  have hbg := hbg.ext hE1
  have hsd := hsd.ext hE1
  have hE := hE.trans hE1
  have hqbb : BgQ g x (actL ro n) bb H := ⟨_, hbb⟩
  have hla : (actL ro n).length ≤ 40 := act_len hn
  have hofa : OfL g ro x (actL ro n) H := hof.sub (fun i hi => act_in hi)
  refine lv_astore_n (lv' := [(2, .ref _), (0, .ref _), (1, .int _)]) hx hb dX2_toldBy_4 rfl hl (by decide) rfl (fun ls hl => ?_)
  refine lv_aload_n hx hb dX2_toldBy_5 rfl (lv_at hl 0 rfl) ?_
  refine lv_aload_n hx hb dX2_toldBy_6 rfl (lv_at hl 1 rfl) ?_
  refine lv_aload_n hx hb dX2_toldBy_7 rfl (lv_at hl 0 rfl) ?_
  refine lv_iload_n hx hb dX2_toldBy_8 rfl (lv_at hl 2 rfl) ?_
  obtain ⟨b1, hb1⟩ : ∃ b, H.size = b := ⟨_, rfl⟩
  have sz_b1 : s.heap.size ≤ b1 := by rw [← hb1]; exact hE.1
  have lo_b1 : gLo g ≤ b1 := Nat.le_trans X.2.2.2.2.2.2.2.1.2.1 sz_b1
  have ne_a_b1 : a ≠ b1 := Nat.ne_of_lt (by rw [← hb1]; exact ob.lt)
  refine r_indy (k := 11) (σ := lm11s) X hnm hl lm11q [.ref a, .ref bb, .int t] [.object "OfferSky$State", .object "OfferSky$Bag", .int] (lm11 hKV X.2.2.2.2.1).1.2 rfl rfl rfl (by intro i t v h1 h2; rcases i with _ | _ | _ | i <;> simp at h1 h2 <;> (try (subst h1; subst h2; rfl))) rfl (Nat.le_of_ble_eq_true rfl) (by show _ + 1 ≤ 10; omega) (by show _ + 3 ≤ 144; omega) dX2_toldBy_9 (fun H ha_b1 hE_b1 hz_b1 => ?_)
  rw [hb1] at ha_b1 hz_b1 ⊢
  have ob := ob.ext hE_b1
  have hbg := hbg.ext hE_b1
  have hst := hst.ext hE_b1
  have hof := hof.ext hE_b1
  have hsd := hsd.ext hE_b1
  have hbb := hbb.ext hE_b1
  have hqbb := hqbb.ext hE_b1
  have hofa := hofa.ext hE_b1
  rw [show ([.ref a, .ref bb, .int t] : List Value).length = 3 from rfl]
  have hE := hE.trans hE_b1
  refine Ct.callV (ct_X3_counts l g _ x (actL ro n) bb b1 (fun i => !btV ro t (actL ro n) (mv ro i)) hla) X hL hl vb_X3_counts q1126 (hbb.recv hKV) rfl rfl (Nat.le_of_ble_eq_true rfl) dX2_toldBy_14 ⟨Nat.le_of_ble_eq_true rfl, Nat.le_of_ble_eq_true rfl⟩ (by omega) (by omega) ⟨hbb, hofa.el, fun i hi H1 hE1 => ru_11 (ha_b1.ext hE1) hw hla (hst.sd.ext hE1) ((hofa i hi).ext hE1) (hqbb.ext hE1) (hofa.ext hE1)⟩ (fun r H locs hL hp => ?_)
  obtain ⟨rfl, hE2⟩ := hp
  exact r_iret X hL rfl rfl dX2_toldBy_17 (by omega) (by omega) ⟨rfl, hE.trans hE2⟩
theorem vb_X2_toldBy : VB yX2_toldBy cX2_toldBy 3 (some .int) 1 := ⟨q1208, q1209, q100, q1210, ⟨by decide, by decide, by decide +kernel⟩⟩

set_option maxRecDepth 100000 in
set_option maxHeartbeats 4000000 in
theorem ct_X2_lambda_weakly_12 (l : Launch) (g : GT) (ro : Nat → Int32) (a : Nat) (x : Nat → Nat) (L : List Nat) (b : Nat) (t : Int32) (f : Nat → Int32) (q : Nat) (hw : WO (mw ro)) (hLn : L.length ≤ 40) : Ct l g yX2_lambda_weakly_12 cX2_lambda_weakly_12 4 (some .boolean) 13 1 3 [.ref a, .ref b, .int t, .ref q] (fun H => SdQ g ro a H ∧ OfQ g f q H ∧ BgQ g x L b H ∧ OfL g ro x L H) (PoB (!L.any (fun i => decide (t ≤ nI (asN (mw ro) (mv ro i) f (nI 15))) && decide (0 < betN (mw ro) (mv ro i) f (swB (mw ro) (nI 15)))))) := by
  refine Ct.ofN (by decide) (Nat.le_of_ble_eq_true rfl) ?_
  intro p e s m args below meth c X hnm hP ls hl
  have hx := X.1
  have hb := X.2.1
  have hKV := X.2.2.2.2.2.2.2.1.1
  have hL : ∀ q ∈ ([] : List Loc), gLo g ≤ q.base := fun _ h => by cases h
  obtain ⟨hs, hq, ⟨PB, hbg⟩, hof⟩ := hP
  have hl : lv_has ls 4 [(0, .ref a), (1, .ref b), (2, .int t), (3, .ref q)] := hl
  refine lv_aload_n hx hb dX2_lambda_weakly_12_0 rfl (lv_at hl 1 rfl) ?_
  refine lv_aload_n hx hb dX2_lambda_weakly_12_1 rfl (lv_at hl 0 rfl) ?_
  refine lv_aload_n hx hb dX2_lambda_weakly_12_2 rfl (lv_at hl 3 rfl) ?_
  refine lv_iload_n hx hb dX2_lambda_weakly_12_3 rfl (lv_at hl 2 rfl) ?_
  obtain ⟨b1, hb1⟩ : ∃ b, s.heap.size = b := ⟨_, rfl⟩
  have sz_b1 : s.heap.size ≤ b1 := by rw [← hb1]; exact Nat.le_refl _
  have lo_b1 : gLo g ≤ b1 := Nat.le_trans X.2.2.2.2.2.2.2.1.2.1 sz_b1
  refine r_indy (k := 13) (σ := lm13s) X hnm hl lm13q [.ref a, .ref q, .int t] [.object "OfferSky$State", .object "OfferSky$Offer", .int] (lm13 hKV X.2.2.2.2.1).1.2 rfl rfl rfl (by intro i t v h1 h2; rcases i with _ | _ | _ | i <;> simp at h1 h2 <;> (try (subst h1; subst h2; rfl))) rfl (Nat.le_of_ble_eq_true rfl) (by show _ + 1 ≤ 1; omega) (by show _ + 3 ≤ 3; omega) dX2_lambda_weakly_12_4 (fun H ha_b1 hE_b1 hz_b1 => ?_)
  rw [hb1] at ha_b1 hz_b1 ⊢
  have hs := hs.ext hE_b1
  have hq := hq.ext hE_b1
  have hbg := hbg.ext hE_b1
  have hof := hof.ext hE_b1
  rw [show ([.ref a, .ref q, .int t] : List Value).length = 3 from rfl]
  refine Ct.callV (ct_X3_hasOne l g PB x L b b1 (fun i => decide (t ≤ nI (asN (mw ro) (mv ro i) f (nI 15))) && decide (0 < betN (mw ro) (mv ro i) f (swB (mw ro) (nI 15)))) hLn) X hL hl vb_X3_hasOne q600 (hbg.recv hKV) rfl rfl (Nat.le_of_ble_eq_true rfl) dX2_lambda_weakly_12_9 ⟨Nat.le_of_ble_eq_true rfl, Nat.le_of_ble_eq_true rfl⟩ (by omega) (by omega) ⟨hbg, hof.el, fun i hi H1 hE1 => ru_13 (ha_b1.ext hE1) hw (hs.ext hE1) (hq.ext hE1) ((hof i hi).ext hE1)⟩ (fun r H locs hL hp => ?_)
  obtain ⟨rfl, hE2⟩ := hp
  refine b_ifne (tgt := 19) X dX2_lambda_weakly_12_12 (by decide) (fun c_12 => ?_) (fun c_12 => ?_)
  ·
    refine lv_iconst (v := nI 0) hx hb dX2_lambda_weakly_12_19 (by decide) ?_
    exact r_iret X hL rfl rfl dX2_lambda_weakly_12_20 (by omega) (by omega) ⟨v_f (by rw [c_12]; rfl), hE_b1.trans hE2⟩
  ·
    refine lv_iconst (v := nI 1) hx hb dX2_lambda_weakly_12_15 (by decide) ?_
    refine lv_goto (tgt := 20) hx hb dX2_lambda_weakly_12_16 (by decide) ?_
    exact r_iret X hL rfl rfl dX2_lambda_weakly_12_20 (by omega) (by omega) ⟨v_t (by rw [c_12]; rfl), hE_b1.trans hE2⟩
theorem vb_X2_lambda_weakly_12 : VB yX2_lambda_weakly_12 cX2_lambda_weakly_12 4 (some .boolean) 3 := ⟨q1223, qs36, q100, q1224, ⟨by decide, by decide, by decide +kernel⟩⟩

theorem ru_12 {l : Launch} {g : GT} {la : Nat} {ro : Nat → Int32} {a : Nat} {x : Nat → Nat} {L : List Nat} {b : Nat} {f : Nat → Int32} {q : Nat} {t : Int32} {H : Heap} (hlo : Lo g la 12 [.ref a, .ref b, .int t] H) (hw : WO (mw ro)) (hLn : L.length ≤ 40) (hs : SdQ g ro a H) (hq : OfQ g f q H) (hb : BgQ g x L b H) (ho : OfL g ro x L H) : LamRun l g xCh la [.ref q] 16 1 3 H (PoB (!L.any (fun i => decide (t ≤ nI (asN (mw ro) (mv ro i) f (nI 15))) && decide (0 < betN (mw ro) (mv ro i) f (swB (mw ro) (nI 15)))))) := by
  obtain ⟨fs0, hob0⟩ := hs.ob
  obtain ⟨fq, hoq⟩ := hq.ob
  exact (lmr_P3V (fun U A hK hw => ⟨(lm12 hK hw).1.1, (lm12 hK hw).2⟩) (fun U A hK hw => LmC.of hK lm12q (Or.inl rfl) rfl rfl (by decide +kernel) (lm12 hK hw).1.1) (fun U A hK hw => (lm12 hK hw).1.1) lm12d0 lm12d1 lm12d4 lm12d5 lm12d8 lm12d9 lm12d12 lm12d13 lm12d16 lm12d19 (ct_X2_lambda_weakly_12 l g ro a x L b t f q hw hLn) vb_X2_lambda_weakly_12 (by decide) hlo hob0 rfl hoq ⟨hs, hq, hb, ho⟩).mono (by decide) (by decide) (by decide)

set_option maxRecDepth 100000 in
set_option maxHeartbeats 4000000 in
theorem ct_X2_weakly (l : Launch) (g : GT) (ro : Nat → Int32) (n : Nat) (x : Nat → Nat) (a : Nat) (t : Int32) (hn : n ≤ 40) (hw : WO (mw ro)) : Ct l g yX2_weakly cX2_weakly 3 (some .int) 19 50 264 [.ref a, .int t] (fun H => StQ g ro n x a H) (fun r H H1 => r = some (.int (nI ((actL ro n).filter (fun i => !(actL ro n).any (fun k => wkB ro t k i))).length)) ∧ Ext H H1) := by
  refine Ct.ofN (by decide) (Nat.le_of_ble_eq_true rfl) ?_
  intro p e s m args below meth c X hnm hP ls hl
  have hx := X.1
  have hb := X.2.1
  have hKV := X.2.2.2.2.2.2.2.1.1
  have hL : ∀ q ∈ ([] : List Loc), gLo g ≤ q.base := fun _ h => by cases h
  have hst := hP
  have hst9 := hst
  obtain ⟨sb, sd, PB, PS, ob, hbg, hsd, hof, hinj⟩ := hst9
  have hl : lv_has ls 3 [(0, .ref a), (1, .int t)] := hl
  have hrl : (List.range n).length ≤ 40 := by rw [rng_len]; exact hn
  have hE : Ext s.heap s.heap := Ext.rfl'
  have ob0 := ob
  have hst0 := hst
  have hof0 := hof
  have hbg0 := hbg
  have hsd0 := hsd
  refine lv_aload_n hx hb dX2_weakly_0 rfl (lv_at hl 0 rfl) ?_
  refine Ct.callV (ct_X2_active l g ro n x a hn) X hL hl vb_X2_active q527 (hst.recv hKV) rfl rfl (Nat.le_of_ble_eq_true rfl) dX2_weakly_1 ⟨Nat.le_of_ble_eq_true rfl, Nat.le_of_ble_eq_true rfl⟩ (by omega) (by omega) hst (fun r H locs hL hp => ?_)
  obtain ⟨bb, hbb, rfl, hE1⟩ := hp
  have ob := ob.ext hE1
  have hst := hst.ext hE1
  have hof := hof.ext hE1
  have hbg := hbg.ext hE1
  have hsd := hsd.ext hE1
  have hE := hE.trans hE1
  have hqbb : BgQ g x (actL ro n) bb H := ⟨_, hbb⟩
  have hla : (actL ro n).length ≤ 40 := act_len hn
  have hofa : OfL g ro x (actL ro n) H := hof.sub (fun i hi => act_in hi)
  refine lv_astore_n (lv' := [(2, .ref _), (0, .ref _), (1, .int _)]) hx hb dX2_weakly_4 rfl hl (by decide) rfl (fun ls hl => ?_)
  refine lv_aload_n hx hb dX2_weakly_5 rfl (lv_at hl 0 rfl) ?_
  refine lv_aload_n hx hb dX2_weakly_6 rfl (lv_at hl 1 rfl) ?_
  refine lv_aload_n hx hb dX2_weakly_7 rfl (lv_at hl 0 rfl) ?_
  refine lv_iload_n hx hb dX2_weakly_8 rfl (lv_at hl 2 rfl) ?_
  obtain ⟨b1, hb1⟩ : ∃ b, H.size = b := ⟨_, rfl⟩
  have sz_b1 : s.heap.size ≤ b1 := by rw [← hb1]; exact hE.1
  have lo_b1 : gLo g ≤ b1 := Nat.le_trans X.2.2.2.2.2.2.2.1.2.1 sz_b1
  have ne_a_b1 : a ≠ b1 := Nat.ne_of_lt (by rw [← hb1]; exact ob.lt)
  refine r_indy (k := 12) (σ := lm12s) X hnm hl lm12q [.ref a, .ref bb, .int t] [.object "OfferSky$State", .object "OfferSky$Bag", .int] (lm12 hKV X.2.2.2.2.1).1.2 rfl rfl rfl (by intro i t v h1 h2; rcases i with _ | _ | _ | i <;> simp at h1 h2 <;> (try (subst h1; subst h2; rfl))) rfl (Nat.le_of_ble_eq_true rfl) (by show _ + 1 ≤ 50; omega) (by show _ + 3 ≤ 264; omega) dX2_weakly_9 (fun H ha_b1 hE_b1 hz_b1 => ?_)
  rw [hb1] at ha_b1 hz_b1 ⊢
  have ob := ob.ext hE_b1
  have hbg := hbg.ext hE_b1
  have hst := hst.ext hE_b1
  have hof := hof.ext hE_b1
  have hsd := hsd.ext hE_b1
  have hbb := hbb.ext hE_b1
  have hqbb := hqbb.ext hE_b1
  have hofa := hofa.ext hE_b1
  rw [show ([.ref a, .ref bb, .int t] : List Value).length = 3 from rfl]
  have hE := hE.trans hE_b1
  refine Ct.callV (ct_X3_countsb l g _ x (actL ro n) bb b1 (fun i => !(actL ro n).any (fun k => wkB ro t k i)) hla) X hL hl vb_X3_counts q1126 (hbb.recv hKV) rfl rfl (Nat.le_of_ble_eq_true rfl) dX2_weakly_14 ⟨Nat.le_of_ble_eq_true rfl, Nat.le_of_ble_eq_true rfl⟩ (by omega) (by omega) ⟨hbb, hofa.el, fun i hi H1 hE1 => ru_12 (ha_b1.ext hE1) hw hla (hst.sd.ext hE1) ((hofa i hi).ext hE1) (hqbb.ext hE1) (hofa.ext hE1)⟩ (fun r H locs hL hp => ?_)
  obtain ⟨rfl, hE2⟩ := hp
  exact r_iret X hL rfl rfl dX2_weakly_17 (by omega) (by omega) ⟨rfl, hE.trans hE2⟩
theorem vb_X2_weakly : VB yX2_weakly cX2_weakly 3 (some .int) 1 := ⟨q1219, q1220, q100, q1221, ⟨by decide, by decide, by decide +kernel⟩⟩

set_option maxRecDepth 100000 in
set_option maxHeartbeats 4000000 in
theorem ct_X2_wouldStand (l : Launch) (g : GT) (ro : Nat → Int32) (n : Nat) (x : Nat → Nat) (a : Nat) (f : Nat → Int32) (q : Nat) (hn : n ≤ 40) (hw : WO (mw ro)) : Ct l g yX2_wouldStand cX2_wouldStand 2 (some .boolean) 14 10 144 [.ref a, .ref q] (fun H => StQ g ro n x a H ∧ OfQ g f q H) (fun r H H1 => r = some (.int (bI (couB (mle ro) (mgr ro) f && !btV ro (nI 15) (actL ro n) f))) ∧ Ext H H1) := by
  refine Ct.of (by decide) (Nat.le_of_ble_eq_true rfl) ?_
  intro p e s m args below meth c X hP ls hl
  have hx := X.1
  have hb := X.2.1
  have hKV := X.2.2.2.2.2.2.2.1.1
  have hL : ∀ q ∈ ([] : List Loc), gLo g ≤ q.base := fun _ h => by cases h
  obtain ⟨hst, hq⟩ := hP
  have hst9 := hst
  obtain ⟨sb, sd, PB, PS, ob, hbg, hsd, hof, hinj⟩ := hst9
  have hl : lv_has ls 2 [(0, .ref a), (1, .ref q)] := hl
  have hrl : (List.range n).length ≤ 40 := by rw [rng_len]; exact hn
  have hE : Ext s.heap s.heap := Ext.rfl'
  have ob0 := ob
  have hst0 := hst
  have hof0 := hof
  have hbg0 := hbg
  have hsd0 := hsd
  refine lv_aload_n hx hb dX2_wouldStand_0 rfl (lv_at hl 0 rfl) ?_
  refine r_get (C := RX2) (T := TX2) (N := 4) (ci := 2) X in_X2 rfl 1 (Nat.le_of_ble_eq_true rfl) q212 (fun _ h => h) ob rfl dX2_wouldStand_1 ?_
  refine lv_aload_n hx hb dX2_wouldStand_4 rfl (lv_at hl 1 rfl) ?_
  obtain ⟨I1, hq1⟩ := id hq
  refine Cp.callV (v := .int (bI (couB (mle ro) (mgr ro) f))) (ct_X4_counts l g PS ro sd I1 f q ) X hL hl vb_X4_counts q534 (hsd.recv hKV) rfl rfl (Nat.le_of_ble_eq_true rfl) dX2_wouldStand_5 ⟨Nat.le_of_ble_eq_true rfl, Nat.le_of_ble_eq_true rfl⟩ (by omega) (by omega) ⟨hsd, hq1⟩ (fun locs hL => ?_)
  refine b_ifeq (tgt := 29) X dX2_wouldStand_8 (by decide) (fun c_8 => ?_) (fun c_8 => ?_)
  ·
    refine lv_iconst (v := nI 0) hx hb dX2_wouldStand_29 (by decide) ?_
    exact r_iret X hL rfl rfl dX2_wouldStand_30 (by omega) (by omega) ⟨v_f (by rw [c_8]; rfl), hE⟩
  ·
    refine lv_aload_n hx hb dX2_wouldStand_11 rfl (lv_at hl 0 rfl) ?_
    refine lv_aload_n hx hb dX2_wouldStand_12 rfl (lv_at hl 1 rfl) ?_
    refine lv_aload_n hx hb dX2_wouldStand_13 rfl (lv_at hl 0 rfl) ?_
    refine Ct.callV (ct_X2_active l g ro n x a hn) X hL hl vb_X2_active q527 (hst.recv hKV) rfl rfl (Nat.le_of_ble_eq_true rfl) dX2_wouldStand_14 ⟨Nat.le_of_ble_eq_true rfl, Nat.le_of_ble_eq_true rfl⟩ (by omega) (by omega) hst (fun r H locs hL hp => ?_)
    obtain ⟨bb, hbb, rfl, hE1⟩ := hp
    have ob := ob.ext hE1
    have hst := hst.ext hE1
    have hof := hof.ext hE1
    have hbg := hbg.ext hE1
    have hsd := hsd.ext hE1
    have hq := hq.ext hE1
    have hE := hE.trans hE1
    have hqbb : BgQ g x (actL ro n) bb H := ⟨_, hbb⟩
    have hla : (actL ro n).length ≤ 40 := act_len hn
    have hofa : OfL g ro x (actL ro n) H := hof.sub (fun i hi => act_in hi)
    refine lv_bipush (v := nI 15) hx hb dX2_wouldStand_17 (by decide) ?_
    refine Cp.callV (v := .int (bI (btV ro (nI 15) (actL ro n) f))) (ct_X2_isBeaten l g ro a f q x (actL ro n) bb (nI 15) hw hla) X hL hl vb_X2_isBeaten q560 (hst.recv hKV) rfl rfl (Nat.le_of_ble_eq_true rfl) dX2_wouldStand_19 ⟨Nat.le_of_ble_eq_true rfl, Nat.le_of_ble_eq_true rfl⟩ (by omega) (by omega) ⟨hst.sd, hq, hqbb, hofa⟩ (fun locs hL => ?_)
    refine b_ifne (tgt := 29) X dX2_wouldStand_22 (by decide) (fun c_22 => ?_) (fun c_22 => ?_)
    ·
      refine lv_iconst (v := nI 0) hx hb dX2_wouldStand_29 (by decide) ?_
      exact r_iret X hL rfl rfl dX2_wouldStand_30 (by omega) (by omega) ⟨v_f (by rw [c_8, c_22]; rfl), hE⟩
    ·
      refine lv_iconst (v := nI 1) hx hb dX2_wouldStand_25 (by decide) ?_
      refine lv_goto (tgt := 30) hx hb dX2_wouldStand_26 (by decide) ?_
      exact r_iret X hL rfl rfl dX2_wouldStand_30 (by omega) (by omega) ⟨v_t (by rw [c_8, c_22]; rfl), hE⟩
theorem vb_X2_wouldStand : VB yX2_wouldStand cX2_wouldStand 2 (some .boolean) 1 := ⟨q1706, q1707, q100, q1708, ⟨by decide, by decide, by decide +kernel⟩⟩

set_option maxRecDepth 100000 in
set_option maxHeartbeats 4000000 in
theorem ct_X2_wouldFall (l : Launch) (g : GT) (ro : Nat → Int32) (n : Nat) (x : Nat → Nat) (a : Nat) (f : Nat → Int32) (q : Nat) (hn : n ≤ 40) (hw : WO (mw ro)) : Ct l g yX2_wouldFall cX2_wouldFall 2 (some .int) 14 20 290 [.ref a, .ref q] (fun H => StQ g ro n x a H ∧ OfQ g f q H) (fun r H H1 => r = some (.int (nI (if couB (mle ro) (mgr ro) f then ((tolL ro (nI 15) (actL ro n)).filter (fun i => beyB (mw ro) f (mv ro i) (swB (mw ro) (nI 15)))).length else 0))) ∧ Ext H H1) := by
  refine Ct.ofN (by decide) (Nat.le_of_ble_eq_true rfl) ?_
  intro p e s m args below meth c X hnm hP ls hl
  have hx := X.1
  have hb := X.2.1
  have hKV := X.2.2.2.2.2.2.2.1.1
  have hL : ∀ q ∈ ([] : List Loc), gLo g ≤ q.base := fun _ h => by cases h
  obtain ⟨hst, hq⟩ := hP
  have hst9 := hst
  obtain ⟨sb, sd, PB, PS, ob, hbg, hsd, hof, hinj⟩ := hst9
  have hl : lv_has ls 2 [(0, .ref a), (1, .ref q)] := hl
  have hrl : (List.range n).length ≤ 40 := by rw [rng_len]; exact hn
  have hE : Ext s.heap s.heap := Ext.rfl'
  have ob0 := ob
  have hst0 := hst
  have hof0 := hof
  have hbg0 := hbg
  have hsd0 := hsd
  refine lv_aload_n hx hb dX2_wouldFall_0 rfl (lv_at hl 0 rfl) ?_
  refine r_get (C := RX2) (T := TX2) (N := 4) (ci := 2) X in_X2 rfl 1 (Nat.le_of_ble_eq_true rfl) q212 (fun _ h => h) ob rfl dX2_wouldFall_1 ?_
  refine lv_aload_n hx hb dX2_wouldFall_4 rfl (lv_at hl 1 rfl) ?_
  obtain ⟨I1, hq1⟩ := id hq
  refine Cp.callV (v := .int (bI (couB (mle ro) (mgr ro) f))) (ct_X4_counts l g PS ro sd I1 f q ) X hL hl vb_X4_counts q534 (hsd.recv hKV) rfl rfl (Nat.le_of_ble_eq_true rfl) dX2_wouldFall_5 ⟨Nat.le_of_ble_eq_true rfl, Nat.le_of_ble_eq_true rfl⟩ (by omega) (by omega) ⟨hsd, hq1⟩ (fun locs hL => ?_)
  refine b_ifne (tgt := 13) X dX2_wouldFall_8 (by decide) (fun c_8 => ?_) (fun c_8 => ?_)
  ·
    refine lv_aload_n hx hb dX2_wouldFall_13 rfl (lv_at hl 0 rfl) ?_
    refine lv_aload_n hx hb dX2_wouldFall_14 rfl (lv_at hl 0 rfl) ?_
    refine Ct.callV (ct_X2_active l g ro n x a hn) X hL hl vb_X2_active q527 (hst.recv hKV) rfl rfl (Nat.le_of_ble_eq_true rfl) dX2_wouldFall_15 ⟨Nat.le_of_ble_eq_true rfl, Nat.le_of_ble_eq_true rfl⟩ (by omega) (by omega) hst (fun r H locs hL hp => ?_)
    obtain ⟨bb, hbb, rfl, hE1⟩ := hp
    have ob := ob.ext hE1
    have hst := hst.ext hE1
    have hof := hof.ext hE1
    have hbg := hbg.ext hE1
    have hsd := hsd.ext hE1
    have hq := hq.ext hE1
    have hE := hE.trans hE1
    have hqbb : BgQ g x (actL ro n) bb H := ⟨_, hbb⟩
    have hla : (actL ro n).length ≤ 40 := act_len hn
    have hofa : OfL g ro x (actL ro n) H := hof.sub (fun i hi => act_in hi)
    refine Ct.callV (ct_X2_told l g ro x a (actL ro n) bb hw hla) X hL hl vb_X2_told q553 (hst.recv hKV) rfl rfl (Nat.le_of_ble_eq_true rfl) dX2_wouldFall_18 ⟨Nat.le_of_ble_eq_true rfl, Nat.le_of_ble_eq_true rfl⟩ (by omega) (by omega) ⟨hst.sd, hqbb, hofa⟩ (fun r H locs hL hp => ?_)
    obtain ⟨tb, htb, rfl, hE1⟩ := hp
    have ob := ob.ext hE1
    have hst := hst.ext hE1
    have hof := hof.ext hE1
    have hbg := hbg.ext hE1
    have hsd := hsd.ext hE1
    have hq := hq.ext hE1
    have hofa := hofa.ext hE1
    have hbb := hbb.ext hE1
    have hqbb := hqbb.ext hE1
    have hE := hE.trans hE1
    have hqtb : BgQ g x (tolL ro (nI 15) (actL ro n)) tb H := ⟨_, htb⟩
    refine lv_aload_n hx hb dX2_wouldFall_21 rfl (lv_at hl 0 rfl) ?_
    refine lv_aload_n hx hb dX2_wouldFall_22 rfl (lv_at hl 1 rfl) ?_
    have hlt : (tolL ro (nI 15) (actL ro n)).length ≤ 40 := Nat.le_trans (List.length_filter_le _ _) hla
    have hoft : OfL g ro x (tolL ro (nI 15) (actL ro n)) H := hofa.sub (fun i hi => tol_in hi)
    obtain ⟨b1, hb1⟩ : ∃ b, H.size = b := ⟨_, rfl⟩
    have sz_b1 : s.heap.size ≤ b1 := by rw [← hb1]; exact hE.1
    have lo_b1 : gLo g ≤ b1 := Nat.le_trans X.2.2.2.2.2.2.2.1.2.1 sz_b1
    have ne_a_b1 : a ≠ b1 := Nat.ne_of_lt (by rw [← hb1]; exact ob.lt)
    refine r_indy (k := 15) (σ := lm15s) X hnm hl lm15q [.ref a, .ref q] [.object "OfferSky$State", .object "OfferSky$Offer"] (lm15 hKV X.2.2.2.2.1).1.2 rfl rfl rfl (by intro i t v h1 h2; rcases i with _ | _ | _ | i <;> simp at h1 h2 <;> (try (subst h1; subst h2; rfl))) rfl (Nat.le_of_ble_eq_true rfl) (by show _ + 1 ≤ 20; omega) (by show _ + 2 ≤ 290; omega) dX2_wouldFall_23 (fun H ha_b1 hE_b1 hz_b1 => ?_)
    rw [hb1] at ha_b1 hz_b1 ⊢
    have ob := ob.ext hE_b1
    have hbg := hbg.ext hE_b1
    have hst := hst.ext hE_b1
    have hof := hof.ext hE_b1
    have hsd := hsd.ext hE_b1
    have hq := hq.ext hE_b1
    have hbb := hbb.ext hE_b1
    have hqbb := hqbb.ext hE_b1
    have hofa := hofa.ext hE_b1
    have htb := htb.ext hE_b1
    have hqtb := hqtb.ext hE_b1
    rw [show ([.ref a, .ref q] : List Value).length = 2 from rfl]
    have hE := hE.trans hE_b1
    refine Ct.callV (ct_X3_counts l g _ x (tolL ro (nI 15) (actL ro n)) tb b1 (fun i => beyB (mw ro) f (mv ro i) (swB (mw ro) (nI 15))) hlt) X hL hl vb_X3_counts q1126 (htb.recv hKV) rfl rfl (Nat.le_of_ble_eq_true rfl) dX2_wouldFall_28 ⟨Nat.le_of_ble_eq_true rfl, Nat.le_of_ble_eq_true rfl⟩ (by omega) (by omega) ⟨htb, (hoft.ext hE_b1).el, fun i hi H1 hE1 => ru_15 (ha_b1.ext hE1) hw (hst.sd.ext hE1) (hq.ext hE1) (((hoft.ext hE_b1) i hi).ext hE1)⟩ (fun r H locs hL hp => ?_)
    obtain ⟨rfl, hE2⟩ := hp
    exact r_iret X hL rfl rfl dX2_wouldFall_31 (by omega) (by omega) ⟨by rw [c_8]; rfl, hE.trans hE2⟩
  ·
    refine lv_iconst (v := nI 0) hx hb dX2_wouldFall_11 (by decide) ?_
    exact r_iret X hL rfl rfl dX2_wouldFall_12 (by omega) (by omega) ⟨by rw [c_8]; rfl, hE⟩
theorem vb_X2_wouldFall : VB yX2_wouldFall cX2_wouldFall 2 (some .int) 1 := ⟨q1717, q1718, q100, q1719, ⟨by decide, by decide, by decide +kernel⟩⟩

set_option maxRecDepth 100000 in
set_option maxHeartbeats 4000000 in
theorem ct_X2_setsOf (l : Launch) (g : GT) (ro : Nat → Int32) (n : Nat) (x : Nat → Nat) (a : Nat) (f : Nat → Int32) (q : Nat) (hn : n ≤ 40) (hw : WO (mw ro)) : Ct l g yX2_setsOf cX2_setsOf 5 (some .int) 14 10 144 [.ref a, .ref q] (fun H => StQ g ro n x a H ∧ OfQ g f q H) (fun r H H1 => r = some (.int (nI (if couB (mle ro) (mgr ro) f then cnt (fun z => !btV ro (nI (z + 1)) (actL ro n) f) 15 else 0))) ∧ Ext H H1) := by
  refine Ct.of (by decide) (Nat.le_of_ble_eq_true rfl) ?_
  intro p e s m args below meth c X hP ls hl
  have hx := X.1
  have hb := X.2.1
  have hKV := X.2.2.2.2.2.2.2.1.1
  have hL : ∀ q ∈ ([] : List Loc), gLo g ≤ q.base := fun _ h => by cases h
  obtain ⟨hst, hq⟩ := hP
  have hst9 := hst
  obtain ⟨sb, sd, PB, PS, ob, hbg, hsd, hof, hinj⟩ := hst9
  have hl : lv_has ls 5 [(0, .ref a), (1, .ref q)] := hl
  have hrl : (List.range n).length ≤ 40 := by rw [rng_len]; exact hn
  have hE : Ext s.heap s.heap := Ext.rfl'
  have ob0 := ob
  have hst0 := hst
  have hof0 := hof
  have hbg0 := hbg
  have hsd0 := hsd
  refine lv_aload_n hx hb dX2_setsOf_0 rfl (lv_at hl 0 rfl) ?_
  refine Ct.callV (ct_X2_active l g ro n x a hn) X hL hl vb_X2_active q527 (hst.recv hKV) rfl rfl (Nat.le_of_ble_eq_true rfl) dX2_setsOf_1 ⟨Nat.le_of_ble_eq_true rfl, Nat.le_of_ble_eq_true rfl⟩ (by omega) (by omega) hst (fun r H locs hL hp => ?_)
  obtain ⟨bb, hbb, rfl, hE1⟩ := hp
  have ob := ob.ext hE1
  have hst := hst.ext hE1
  have hof := hof.ext hE1
  have hbg := hbg.ext hE1
  have hsd := hsd.ext hE1
  have hq := hq.ext hE1
  have hE := hE.trans hE1
  have hqbb : BgQ g x (actL ro n) bb H := ⟨_, hbb⟩
  have hla : (actL ro n).length ≤ 40 := act_len hn
  have hofa : OfL g ro x (actL ro n) H := hof.sub (fun i hi => act_in hi)
  refine lv_astore_n (lv' := [(2, .ref _), (0, .ref _), (1, .ref _)]) hx hb dX2_setsOf_4 rfl hl (by decide) rfl (fun ls hl => ?_)
  refine lv_iconst (v := nI 0) hx hb dX2_setsOf_5 (by decide) ?_
  refine lv_istore_n (lv' := [(3, .int _), (2, .ref _), (0, .ref _), (1, .ref _)]) hx hb dX2_setsOf_6 rfl hl (by decide) rfl (fun ls hl => ?_)
  refine lv_iconst (v := nI 1) hx hb dX2_setsOf_7 (by decide) ?_
  refine lv_istore (lv' := [(4, .int _), (3, .int _), (2, .ref _), (0, .ref _), (1, .ref _)]) hx hb dX2_setsOf_8 hl (by decide) rfl (fun ls hl => ?_)
  have L10 : ∀ (fuel : Nat) (v k : Nat), 15 - k < fuel → (v = if couB (mle ro) (mgr ro) f then cnt (fun z => !btV ro (nI (z + 1)) (actL ro n) f) k else 0) → (k ≤ 15) → ∀ (locs : List Loc), (∀ q ∈ locs, gLo g ≤ q.base) → ∀ (ls : Array Slot), lv_has ls 5 [(0, .ref a), (1, .ref q), (2, .ref bb), (3, .int (nI v)), (4, .int (nI (k + 1)))] → W p l e (rmL 14 10 144) s m args below meth c H locs 10 144 (MQ below (Qcg (fun r H H1 => r = some (.int (nI (if couB (mle ro) (mgr ro) f then cnt (fun z => !btV ro (nI (z + 1)) (actL ro n) f) 15 else 0))) ∧ Ext H H1)) args s 10 144 (fre g)) (F0 m 10 ls []) := by
    intro fuel
    induction fuel with
    | zero => intro v k hfu; exact absurd hfu (Nat.not_lt_zero _)
    | succ fuel ih10 =>
      intro v k hfu hv hk  locs hL ls hl
      refine lv_iload hx hb dX2_setsOf_10 (lv_at hl 4 rfl) ?_
      refine lv_bipush (v := nI 15) hx hb dX2_setsOf_12 (by decide) ?_
      refine n_icmp_gt (tgt := 48) X dX2_setsOf_14 (by decide) (by omega) (by omega) (fun c_14 => ?_) (fun c_14 => ?_)
      ·
        refine lv_iload_n hx hb dX2_setsOf_48 rfl (lv_at hl 3 rfl) ?_
        exact r_iret X hL rfl rfl dX2_setsOf_49 (by omega) (by omega) ⟨by rw [hv, show k = 15 by omega], hE⟩
      ·
        refine lv_aload_n hx hb dX2_setsOf_17 rfl (lv_at hl 0 rfl) ?_
        refine r_get (C := RX2) (T := TX2) (N := 4) (ci := 2) X in_X2 rfl 1 (Nat.le_of_ble_eq_true rfl) q212 (fun _ h => h) ob rfl dX2_setsOf_18 ?_
        refine lv_aload_n hx hb dX2_setsOf_21 rfl (lv_at hl 1 rfl) ?_
        obtain ⟨I1, hq1⟩ := id hq
        refine Cp.callV (v := .int (bI (couB (mle ro) (mgr ro) f))) (ct_X4_counts l g PS ro sd I1 f q ) X hL hl vb_X4_counts q534 (hsd.recv hKV) rfl rfl (Nat.le_of_ble_eq_true rfl) dX2_setsOf_22 ⟨Nat.le_of_ble_eq_true rfl, Nat.le_of_ble_eq_true rfl⟩ (by omega) (by omega) ⟨hsd, hq1⟩ (fun locs hL => ?_)
        refine b_ifeq (tgt := 48) X dX2_setsOf_25 (by decide) (fun c_25 => ?_) (fun c_25 => ?_)
        ·
          refine lv_iload_n hx hb dX2_setsOf_48 rfl (lv_at hl 3 rfl) ?_
          exact r_iret X hL rfl rfl dX2_setsOf_49 (by omega) (by omega) ⟨by rw [hv, c_25]; rfl, hE⟩
        ·
          refine lv_iload_n hx hb dX2_setsOf_28 rfl (lv_at hl 3 rfl) ?_
          refine lv_aload_n hx hb dX2_setsOf_29 rfl (lv_at hl 0 rfl) ?_
          refine lv_aload_n hx hb dX2_setsOf_30 rfl (lv_at hl 1 rfl) ?_
          refine lv_aload_n hx hb dX2_setsOf_31 rfl (lv_at hl 2 rfl) ?_
          refine lv_iload hx hb dX2_setsOf_32 (lv_at hl 4 rfl) ?_
          refine Cp.callV (v := .int (bI (!btV ro (nI (k + 1)) (actL ro n) f))) (ct_X2_isToldOn l g ro a f q x (actL ro n) bb (nI (k + 1)) hw hla) X hL hl vb_X2_isToldOn q1214 (hst.recv hKV) rfl rfl (Nat.le_of_ble_eq_true rfl) dX2_setsOf_34 ⟨Nat.le_of_ble_eq_true rfl, Nat.le_of_ble_eq_true rfl⟩ (by omega) (by omega) ⟨hst.sd, hq, hqbb, hofa⟩ (fun locs hL => ?_)
          refine Cp.callSN (v := .int (bI (!btV ro (nI (k + 1)) (actL ro n) f))) (ct_X1_flag l g (!btV ro (nI (k + 1)) (actL ro n) f) ) X hL hl sb_X1_flag q1098 rfl rfl (Nat.le_of_ble_eq_true rfl) dX2_setsOf_37 ⟨Nat.le_of_ble_eq_true rfl, Nat.le_of_ble_eq_true rfl⟩ (by omega) (by omega) trivial (fun locs hL => ?_)
          refine lv_iadd hx hb dX2_setsOf_40 ?_
          refine W.stk (w := (nI (v + (if !btV ro (nI (k + 1)) (actL ro n) f then 1 else 0)))) (add_bI v _) ?_
          refine lv_istore_n (lv' := [(3, .int _), (0, .ref _), (1, .ref _), (2, .ref _), (4, .int _)]) hx hb dX2_setsOf_41 rfl hl (by decide) rfl (fun ls hl => ?_)
          refine lv_iinc (v := nI (k + 1 + 1)) (lv' := [(4, .int _), (3, .int _), (0, .ref _), (1, .ref _), (2, .ref _)]) hx hb dX2_setsOf_42 hl (k := 4) rfl (nI_iinc _ 1 rfl) (by decide) rfl (fun ls hl => ?_)
          refine lv_goto (tgt := 10) hx hb dX2_setsOf_45 (by decide) ?_
          exact W.widen (by omega) (by omega) (ih10 _ (k + 1) (by omega) (by rw [hv, c_25]; rfl) (by omega) _ hL ls (lv_sub hl [2, 3, 4, 1, 0] rfl))
  exact W.widen (by omega) (by omega) (L10 16 0 0 (by omega) (by split <;> rfl) (by omega) _ hL ls (lv_sub hl [3, 4, 2, 1, 0] rfl))
theorem vb_X2_setsOf : VB yX2_setsOf cX2_setsOf 5 (some .int) 1 := ⟨q1688, q1689, q100, q1690, ⟨by decide, by decide, by decide +kernel⟩⟩
