/-! reckoned; reached; shares -/
theorem cnt_b {p : Nat → Bool} {k v : Nat} (hv : v = cnt p k) : v + (if p k then 1 else 0) = cnt p (k + 1) := by rw [hv]; rfl
theorem rd_s {ro : Nat → Int32} {L : List Nat} {a b x y k : Nat} (h : k < L.length) : rdB ro (L.take (k + 1)) a b x y = (rdB ro (L.take k) a b x y || (decide (nI x ≤ goodI (mw ro) (mv ro (L.getD k 0)) a) && decide (nI y ≤ goodI (mw ro) (mv ro (L.getD k 0)) b))) := anyP_s h
theorem bs_s {ro : Nat → Int32} {L : List Nat} {a b k : Nat} {x : Int32} (h : k < L.length) : bsL ro a b x (L.take (k + 1)) = if x ≤ goodI (mw ro) (mv ro (L.getD k 0)) a then mxI (bsL ro a b x (L.take k)) (goodI (mw ro) (mv ro (L.getD k 0)) b) else bsL ro a b x (L.take k) := by rw [take_app h, bsL_s]
theorem due_s {ro : Nat → Int32} {L : List Nat} {i q k : Nat} (h : k < L.length) : dueL ro i q (L.take (k + 1)) = if L.getD k 0 = i then dueL ro i q (L.take k) else mxI (dueL ro i q (L.take k)) (dueI ro i (L.getD k 0) q) := by rw [take_app h, dueL_s]

theorem v9 {b : Bool} (h : b = true) : nI 1 = bI b := by rw [h]; rfl
theorem v8 {b : Bool} (h : b = false) : nI 0 = bI b := by rw [h]; rfl

set_option maxRecDepth 100000 in
set_option maxHeartbeats 4000000 in
theorem ct_X2_dueAgainst (l : Launch) (g : GT) (ro : Nat → Int32) (a : Nat) (f1 : Nat → Int32) (q1 : Nat) (f2 : Nat → Int32) (q2 : Nat) (s0 : Nat) (hw : WO (mw ro)) (hs : s0 < 4) : Ct l g yX2_dueAgainst cX2_dueAgainst 5 (some .int) 4 0 0 [.ref a, .ref q1, .ref q2, .int (nI s0)] (fun H => SdQ g ro a H ∧ OfQ g f1 q1 H ∧ OfQ g f2 q2 H) (fun r H H1 => r = some (.int (if 0 < betN (mw ro) f1 f2 (swB (mw ro) (rstI s0)) then nI 0 else goodI (mw ro) f2 s0 + bI (decide (0 < betN (mw ro) f2 f1 (swB (mw ro) (rstI s0)))))) ∧ H1 = H) := by
  refine Ct.of (by decide) (Nat.le_of_ble_eq_true rfl) ?_
  intro p e s m args below meth c X hP ls hl
  have hx := X.1
  have hb := X.2.1
  have hKV := X.2.2.2.2.2.2.2.1.1
  have hL : ∀ q ∈ ([] : List Loc), gLo g ≤ q.base := fun _ h => by cases h
  obtain ⟨hs9, ⟨I1, hq1⟩, ⟨I2, hq2⟩⟩ := hP
  obtain ⟨sb, sd, PS, v1, v2, ob, hsd⟩ := hs9
  have hl : lv_has ls 5 [(0, .ref a), (1, .ref q1), (2, .ref q2), (3, .int (nI s0))] := hl
  have b1 := betN_le (mw ro) f1 f2 (swB (mw ro) (rstI s0))
  have b2 := betN_le (mw ro) f2 f1 (swB (mw ro) (rstI s0))
  refine lv_bipush (v := nI 15) hx hb dX2_dueAgainst_0 (by decide) ?_
  refine lv_iconst (v := nI 1) hx hb dX2_dueAgainst_2 (by decide) ?_
  refine lv_iload_n hx hb dX2_dueAgainst_3 rfl (lv_at hl 3 rfl) ?_
  refine lv_ishl hx hb dX2_dueAgainst_4 ?_
  refine lv_iconst (v := (-1)) hx hb dX2_dueAgainst_5 (by decide) ?_
  refine lv_ixor hx hb dX2_dueAgainst_6 ?_
  refine lv_iand hx hb dX2_dueAgainst_7 ?_
  refine W.stk (w := (rstI s0)) rfl ?_
  refine lv_istore (lv' := [(4, .int _), (0, .ref _), (1, .ref _), (2, .ref _), (3, .int _)]) hx hb dX2_dueAgainst_8 hl (by decide) rfl (fun ls hl => ?_)
  refine lv_aload_n hx hb dX2_dueAgainst_10 rfl (lv_at hl 1 rfl) ?_
  refine r_get (C := RX2) (T := TX2) (N := 4) (ci := 2) X in_X2 rfl 1 (Nat.le_of_ble_eq_true rfl) q212 (fun _ h => h) ob rfl dX2_dueAgainst_11 ?_
  refine lv_aload_n hx hb dX2_dueAgainst_14 rfl (lv_at hl 2 rfl) ?_
  refine lv_aload_n hx hb dX2_dueAgainst_15 rfl (lv_at hl 3 rfl) ?_
  refine lv_iload hx hb dX2_dueAgainst_16 (lv_at hl 0 rfl) ?_
  refine Cp.callV (v := .int (nI (betN (mw ro) f1 f2 (swB (mw ro) (rstI s0))))) (ct_X4_better l g PS ro sd I1 f1 q1 I2 f2 q2 (rstI s0) hw) X hL hl vb_X4_better q1767 (hsd.recv hKV) rfl rfl (Nat.le_of_ble_eq_true rfl) dX2_dueAgainst_18 ⟨Nat.le_of_ble_eq_true rfl, Nat.le_of_ble_eq_true rfl⟩ (by omega) (by omega) ⟨hsd, hq1, hq2⟩ (fun locs hL => ?_)
  refine n_ifle (tgt := 26) X dX2_dueAgainst_21 (by decide) (by omega) (fun c_21 => ?_) (fun c_21 => ?_)
  ·
    refine lv_aload_n hx hb dX2_dueAgainst_26 rfl (lv_at hl 1 rfl) ?_
    refine r_get (C := RX2) (T := TX2) (N := 4) (ci := 2) X in_X2 rfl 1 (Nat.le_of_ble_eq_true rfl) q212 (fun _ h => h) ob rfl dX2_dueAgainst_27 ?_
    refine lv_aload_n hx hb dX2_dueAgainst_30 rfl (lv_at hl 3 rfl) ?_
    refine lv_iload_n hx hb dX2_dueAgainst_31 rfl (lv_at hl 4 rfl) ?_
    refine Cp.callV (v := .int (goodI (mw ro) f2 s0)) (ct_X4_good l g PS ro sd I2 f2 q2 s0 hs) X hL hl vb_X4_good q1286 (hsd.recv hKV) rfl rfl (Nat.le_of_ble_eq_true rfl) dX2_dueAgainst_32 ⟨Nat.le_of_ble_eq_true rfl, Nat.le_of_ble_eq_true rfl⟩ (by omega) (by omega) ⟨hsd, hq2⟩ (fun locs hL => ?_)
    refine lv_aload_n hx hb dX2_dueAgainst_35 rfl (lv_at hl 1 rfl) ?_
    refine r_get (C := RX2) (T := TX2) (N := 4) (ci := 2) X in_X2 rfl 1 (Nat.le_of_ble_eq_true rfl) q212 (fun _ h => h) ob rfl dX2_dueAgainst_36 ?_
    refine lv_aload_n hx hb dX2_dueAgainst_39 rfl (lv_at hl 3 rfl) ?_
    refine lv_aload_n hx hb dX2_dueAgainst_40 rfl (lv_at hl 2 rfl) ?_
    refine lv_iload hx hb dX2_dueAgainst_41 (lv_at hl 0 rfl) ?_
    refine Cp.callV (v := .int (nI (betN (mw ro) f2 f1 (swB (mw ro) (rstI s0))))) (ct_X4_better l g PS ro sd I2 f2 q2 I1 f1 q1 (rstI s0) hw) X hL hl vb_X4_better q1767 (hsd.recv hKV) rfl rfl (Nat.le_of_ble_eq_true rfl) dX2_dueAgainst_43 ⟨Nat.le_of_ble_eq_true rfl, Nat.le_of_ble_eq_true rfl⟩ (by omega) (by omega) ⟨hsd, hq2, hq1⟩ (fun locs hL => ?_)
    refine n_ifle (tgt := 53) X dX2_dueAgainst_46 (by decide) (by omega) (fun c_46 => ?_) (fun c_46 => ?_)
    ·
      refine lv_iconst (v := nI 0) hx hb dX2_dueAgainst_53 (by decide) ?_
      refine Cp.callSN (v := .int (nI 0)) (ct_X1_flag l g false ) X hL hl sb_X1_flag q1098 rfl rfl (Nat.le_of_ble_eq_true rfl) dX2_dueAgainst_54 ⟨Nat.le_of_ble_eq_true rfl, Nat.le_of_ble_eq_true rfl⟩ (by omega) (by omega) trivial (fun locs hL => ?_)
      refine lv_iadd hx hb dX2_dueAgainst_57 ?_
      exact r_iret X hL rfl rfl dX2_dueAgainst_58 (by omega) (by omega) ⟨by rw [if_neg (by omega), decide_eq_false (by omega)]; rfl, rfl⟩
    ·
      refine lv_iconst (v := nI 1) hx hb dX2_dueAgainst_49 (by decide) ?_
      refine lv_goto (tgt := 54) hx hb dX2_dueAgainst_50 (by decide) ?_
      refine Cp.callSN (v := .int (nI 1)) (ct_X1_flag l g true ) X hL hl sb_X1_flag q1098 rfl rfl (Nat.le_of_ble_eq_true rfl) dX2_dueAgainst_54 ⟨Nat.le_of_ble_eq_true rfl, Nat.le_of_ble_eq_true rfl⟩ (by omega) (by omega) trivial (fun locs hL => ?_)
      refine lv_iadd hx hb dX2_dueAgainst_57 ?_
      exact r_iret X hL rfl rfl dX2_dueAgainst_58 (by omega) (by omega) ⟨by rw [if_neg (by omega), decide_eq_true (by omega)]; rfl, rfl⟩
  ·
    refine lv_iconst (v := nI 0) hx hb dX2_dueAgainst_24 (by decide) ?_
    exact r_iret X hL rfl rfl dX2_dueAgainst_25 (by omega) (by omega) ⟨by rw [if_pos (by omega)], rfl⟩
theorem vb_X2_dueAgainst : VB yX2_dueAgainst cX2_dueAgainst 5 (some .int) 3 := ⟨q1765, qs52, q100, q1766, ⟨by decide, by decide, by decide +kernel⟩⟩

set_option maxRecDepth 100000 in
set_option maxHeartbeats 4000000 in
theorem ct_X2_reckonedRaise (l : Launch) (g : GT) (ro : Nat → Int32) (n : Nat) (x : Nat → Nat) (a : Nat) (i s0 : Nat) (hn : n ≤ 40) (hw : WO (mw ro)) (hR : RO ro n) (hi : i < n) (hs : s0 < 4) : Ct l g yX2_reckonedRaise cX2_reckonedRaise 7 (some .int) 14 9 141 [.ref a, .ref (x i), .int (nI s0)] (fun H => StQ g ro n x a H) (fun r H H1 => r = some (.int (if cB ro i && matB (mw ro) s0 then raI ro n i s0 else (-1))) ∧ Ext H H1) := by
  refine Ct.of (by decide) (Nat.le_of_ble_eq_true rfl) ?_
  intro p e s m args below meth c X hP ls hl
  have hx := X.1
  have hb := X.2.1
  have hKV := X.2.2.2.2.2.2.2.1.1
  have hL : ∀ q ∈ ([] : List Loc), gLo g ≤ q.base := fun _ h => by cases h
  have hst := hP
  have hst9 := hst
  obtain ⟨sb, sd, PB, PS, ob, hbg, hsd, hof, hinj⟩ := hst9
  have hl : lv_has ls 7 [(0, .ref a), (1, .ref (x i)), (2, .int (nI s0))] := hl
  have hrl : (List.range n).length ≤ 40 := by rw [rng_len]; exact hn
  have hqi := hof i (rng_mem hi)
  have hE : Ext s.heap s.heap := Ext.rfl'
  have ob0 := ob
  have hst0 := hst
  have hof0 := hof
  have hbg0 := hbg
  have hsd0 := hsd
  refine lv_aload_n hx hb dX2_reckonedRaise_0 rfl (lv_at hl 0 rfl) ?_
  refine lv_aload_n hx hb dX2_reckonedRaise_1 rfl (lv_at hl 1 rfl) ?_
  refine lv_iload_n hx hb dX2_reckonedRaise_2 rfl (lv_at hl 2 rfl) ?_
  refine Cp.callV (v := .int (bI (cB ro i && matB (mw ro) s0))) (ct_X2_canRaise l g ro n x a i s0 hn hw hi hs) X hL hl vb_X2_canRaise q1734 (hst.recv hKV) rfl rfl (Nat.le_of_ble_eq_true rfl) dX2_reckonedRaise_3 ⟨Nat.le_of_ble_eq_true rfl, Nat.le_of_ble_eq_true rfl⟩ (by omega) (by omega) hst (fun locs hL => ?_)
  refine b_ifne (tgt := 11) X dX2_reckonedRaise_6 (by decide) (fun c_6 => ?_) (fun c_6 => ?_)
  ·
    refine lv_iconst (v := nI 0) hx hb dX2_reckonedRaise_11 (by decide) ?_
    refine lv_istore_n (lv' := [(3, .int _), (0, .ref _), (1, .ref _), (2, .int _)]) hx hb dX2_reckonedRaise_12 rfl hl (by decide) rfl (fun ls hl => ?_)
    refine lv_aload_n hx hb dX2_reckonedRaise_13 rfl (lv_at hl 1 rfl) ?_
    refine Ct.callV (ct_X2_active l g ro n x a hn) X hL hl vb_X2_active q527 (hst.recv hKV) rfl rfl (Nat.le_of_ble_eq_true rfl) dX2_reckonedRaise_14 ⟨Nat.le_of_ble_eq_true rfl, Nat.le_of_ble_eq_true rfl⟩ (by omega) (by omega) hst (fun r H locs hL hp => ?_)
    obtain ⟨bb, hbb, rfl, hE1⟩ := hp
    have ob := ob.ext hE1
    have hst := hst.ext hE1
    have hof := hof.ext hE1
    have hbg := hbg.ext hE1
    have hsd := hsd.ext hE1
    have hqi := hqi.ext hE1
    have hE := hE.trans hE1
    have hqbb : BgQ g x (actL ro n) bb H := ⟨_, hbb⟩
    have hla : (actL ro n).length ≤ 40 := act_len hn
    have hofa : OfL g ro x (actL ro n) H := hof.sub (fun i hi => act_in hi)
    refine lv_astore (lv' := [(4, .ref _), (3, .int _), (0, .ref _), (1, .ref _), (2, .int _)]) hx hb dX2_reckonedRaise_17 hl (by decide) rfl (fun ls hl => ?_)
    refine lv_iconst (v := nI 0) hx hb dX2_reckonedRaise_19 (by decide) ?_
    refine lv_istore (lv' := [(5, .int _), (4, .ref _), (3, .int _), (0, .ref _), (1, .ref _), (2, .int _)]) hx hb dX2_reckonedRaise_20 hl (by decide) rfl (fun ls hl => ?_)
    have L22 : ∀ (fuel : Nat) (k : Nat), (actL ro n).length - k < fuel → (k ≤ (actL ro n).length) → ∀ (locs : List Loc), (∀ q ∈ locs, gLo g ≤ q.base) → ∀ (ls : Array Slot), lv_has ls 7 [(0, .ref a), (1, .ref (x i)), (2, .int (nI s0)), (3, .int (dueL ro i s0 ((actL ro n).take k))), (4, .ref bb), (5, .int (nI k))] → W p l e (rmL 14 9 141) s m args below meth c H locs 9 141 (MQ below (Qcg (fun r H H1 => r = some (.int (if cB ro i && matB (mw ro) s0 then raI ro n i s0 else (-1))) ∧ Ext H H1)) args s 9 141 (fre g)) (F0 m 22 ls []) := by
      intro fuel
      induction fuel with
      | zero => intro k hfu; exact absurd hfu (Nat.not_lt_zero _)
      | succ fuel ih22 =>
        intro k hfu hk  locs hL ls hl
        refine lv_iload hx hb dX2_reckonedRaise_22 (lv_at hl 5 rfl) ?_
        refine lv_aload hx hb dX2_reckonedRaise_24 (lv_at hl 4 rfl) ?_
        refine Cp.callV (v := .int (nI ((actL ro n).length))) (ct_X3_size l g _ (XL x (actL ro n)) ((actL ro n).length) bb ) X hL hl vb_X3_size q564 (hbb.recv hKV) rfl rfl (Nat.le_of_ble_eq_true rfl) dX2_reckonedRaise_26 ⟨Nat.le_of_ble_eq_true rfl, Nat.le_of_ble_eq_true rfl⟩ (by omega) (by omega) hbb (fun locs hL => ?_)
        refine n_icmp_ge (tgt := 73) X dX2_reckonedRaise_29 (by decide) (by omega) (by omega) (fun c_29 => ?_) (fun c_29 => ?_)
        ·
          refine lv_iconst (v := nI 0) hx hb dX2_reckonedRaise_73 (by decide) ?_
          obtain ⟨Ii, hqi2⟩ := id hqi
          have hdM := dueM_le (i := i) hR hs n (Nat.le_refl n)
          obtain ⟨hg1, hg2⟩ := gN_ok (w := mw ro) (hR.v hi) hs
          refine lv_iload_n hx hb dX2_reckonedRaise_74 rfl (lv_at hl 3 rfl) ?_
          refine W.stk (w := (nI (dueM ro i s0 n))) (by rw [show k = (actL ro n).length by omega, List.take_length]; exact dueL_n hR hs n (Nat.le_refl n)) ?_
          refine lv_aload_n hx hb dX2_reckonedRaise_75 rfl (lv_at hl 0 rfl) ?_
          refine r_get (C := RX2) (T := TX2) (N := 4) (ci := 2) X in_X2 rfl 1 (Nat.le_of_ble_eq_true rfl) q212 (fun _ h => h) ob rfl dX2_reckonedRaise_76 ?_
          refine lv_aload_n hx hb dX2_reckonedRaise_79 rfl (lv_at hl 1 rfl) ?_
          refine lv_iload_n hx hb dX2_reckonedRaise_80 rfl (lv_at hl 2 rfl) ?_
          refine Cp.callV (v := .int (goodI (mw ro) (mv ro i) s0)) (ct_X4_good l g PS ro sd Ii (mv ro i) (x i) s0 hs) X hL hl vb_X4_good q1286 (hsd.recv hKV) rfl rfl (Nat.le_of_ble_eq_true rfl) dX2_reckonedRaise_81 ⟨Nat.le_of_ble_eq_true rfl, Nat.le_of_ble_eq_true rfl⟩ (by omega) (by omega) ⟨hsd, hqi2⟩ (fun locs hL => ?_)
          refine W.stk (w := (nI (gN (mw ro) (mv ro i) s0))) hg1 ?_
          refine lv_isub hx hb dX2_reckonedRaise_84 ?_
          refine va_mmax hx hb (X.2.2.1.trans hl.1.symm) X.2.2.2.1 (X.2.2.2.2.1 _ q1085) (X.2.2.2.2.1 _ q380) (X.2.2.2.2.1 _ q120) (X.2.2.2.2.1 _ q381) (Nat.le_of_ble_eq_true rfl) (Nat.le_of_ble_eq_true rfl) (by show 9 ≤ 9; omega) (by show 141 ≤ 141; omega) dX2_reckonedRaise_85 ?_
          refine W.stk (w := mxI (nI 0) ((nI (dueM ro i s0 n)) - (nI (gN (mw ro) (mv ro i) s0)))) rfl ?_
          refine W.stk (w := (nI (dueM ro i s0 n - gN (mw ro) (mv ro i) s0))) (raise_by hdM hg2) ?_
          refine lv_istore (lv' := [(5, .int _), (0, .ref _), (1, .ref _), (2, .int _), (3, .int _), (4, .ref _)]) hx hb dX2_reckonedRaise_88 hl (by decide) rfl (fun ls hl => ?_)
          refine lv_aload_n hx hb dX2_reckonedRaise_90 rfl (lv_at hl 1 rfl) ?_
          refine r_get (C := RX2) (T := TX2) (N := 4) (ci := 2) X in_X2 rfl 1 (Nat.le_of_ble_eq_true rfl) q212 (fun _ h => h) ob rfl dX2_reckonedRaise_91 ?_
          refine lv_iload_n hx hb dX2_reckonedRaise_94 rfl (lv_at hl 3 rfl) ?_
          refine lv_aload_n hx hb dX2_reckonedRaise_95 rfl (lv_at hl 1 rfl) ?_
          refine lv_aload_n hx hb dX2_reckonedRaise_96 rfl (lv_at hl 2 rfl) ?_
          refine lv_iload_n hx hb dX2_reckonedRaise_97 rfl (lv_at hl 3 rfl) ?_
          refine lv_iload hx hb dX2_reckonedRaise_98 (lv_at hl 0 rfl) ?_
          refine Cp.callV (v := .int (rvI ro i s0 (dueM ro i s0 n - gN (mw ro) (mv ro i) s0))) (ct_X2_betterValue l g ro a (mv ro i) (x i) s0 (nI (dueM ro i s0 n - gN (mw ro) (mv ro i) s0)) hs) X hL hl vb_X2_betterValue q1742 (hst.recv hKV) rfl rfl (Nat.le_of_ble_eq_true rfl) dX2_reckonedRaise_100 ⟨Nat.le_of_ble_eq_true rfl, Nat.le_of_ble_eq_true rfl⟩ (by omega) (by omega) ⟨hst.sd, hqi⟩ (fun locs hL => ?_)
          refine Cp.callV (v := .int (bI (inB (rvI ro i s0 (dueM ro i s0 n - gN (mw ro) (mv ro i) s0)) (mle ro s0) (mgr ro s0)))) (ct_X4_isWithin l g PS ro sd s0 (rvI ro i s0 (dueM ro i s0 n - gN (mw ro) (mv ro i) s0)) hs) X hL hl vb_X4_isWithin q1748 (hsd.recv hKV) rfl rfl (Nat.le_of_ble_eq_true rfl) dX2_reckonedRaise_103 ⟨Nat.le_of_ble_eq_true rfl, Nat.le_of_ble_eq_true rfl⟩ (by omega) (by omega) hsd (fun locs hL => ?_)
          refine b_ifeq (tgt := 114) X dX2_reckonedRaise_106 (by decide) (fun c_106 => ?_) (fun c_106 => ?_)
          ·
            have hcm := c_6
            rw [Bool.and_eq_true] at c_6
            refine lv_iconst (v := (-1)) hx hb dX2_reckonedRaise_114 (by decide) ?_
            exact r_iret X hL rfl rfl dX2_reckonedRaise_115 (by omega) (by omega) ⟨v_i (by rw [if_pos hcm, ← reck_eq hR hn hi hs c_6.1 c_6.2, if_neg (by rw [c_106]; decide)]), hE⟩
          ·
            have hcm := c_6
            rw [Bool.and_eq_true] at c_6
            refine lv_iload hx hb dX2_reckonedRaise_109 (lv_at hl 0 rfl) ?_
            refine lv_goto (tgt := 115) hx hb dX2_reckonedRaise_111 (by decide) ?_
            exact r_iret X hL rfl rfl dX2_reckonedRaise_115 (by omega) (by omega) ⟨v_i (by rw [if_pos hcm, ← reck_eq hR hn hi hs c_6.1 c_6.2, if_pos c_106]), hE⟩
        ·
          refine lv_aload hx hb dX2_reckonedRaise_32 (lv_at hl 4 rfl) ?_
          refine lv_iload hx hb dX2_reckonedRaise_34 (lv_at hl 5 rfl) ?_
          refine Cp.callV (v := .ref (x ((actL ro n).getD k 0))) (ct_X3_get l g _ (XL x (actL ro n)) ((actL ro n).length) bb k (by omega)) X hL hl vb_X3_get q568 (hbb.recv hKV) rfl rfl (Nat.le_of_ble_eq_true rfl) dX2_reckonedRaise_36 ⟨Nat.le_of_ble_eq_true rfl, Nat.le_of_ble_eq_true rfl⟩ (by omega) (by omega) hbb (fun locs hL => ?_)
          have hqk := hofa _ (getD_mem (L := actL ro n) (k := k) (by omega))
          obtain ⟨fqk, oqk⟩ := hqk.ob
          refine r_cast (ci := 5) X rfl oqk q572 dX2_reckonedRaise_39 ?_
          refine lv_astore (lv' := [(6, .ref _), (0, .ref _), (1, .ref _), (2, .int _), (3, .int _), (4, .ref _), (5, .int _)]) hx hb dX2_reckonedRaise_42 hl (by decide) rfl (fun ls hl => ?_)
          refine lv_aload hx hb dX2_reckonedRaise_44 (lv_at hl 0 rfl) ?_
          refine lv_aload_n hx hb dX2_reckonedRaise_46 rfl (lv_at hl 2 rfl) ?_
          refine lv_acmp_ne (rx := some (x ((actL ro n).getD k 0))) (ry := some (x i)) (tgt := 54) hx hb dX2_reckonedRaise_47 (by decide) (fun c_47 => ?_) (fun c_47 => ?_)
          ·
            refine lv_iload_n hx hb dX2_reckonedRaise_54 rfl (lv_at hl 4 rfl) ?_
            refine lv_aload_n hx hb dX2_reckonedRaise_55 rfl (lv_at hl 1 rfl) ?_
            refine lv_aload_n hx hb dX2_reckonedRaise_56 rfl (lv_at hl 2 rfl) ?_
            refine lv_aload hx hb dX2_reckonedRaise_57 (lv_at hl 0 rfl) ?_
            refine lv_iload_n hx hb dX2_reckonedRaise_59 rfl (lv_at hl 3 rfl) ?_
            refine Cp.callV (v := .int (dueI ro i ((actL ro n).getD k 0) s0)) (ct_X2_dueAgainst l g ro a (mv ro i) (x i) (mv ro ((actL ro n).getD k 0)) (x ((actL ro n).getD k 0)) s0 hw hs) X hL hl vb_X2_dueAgainst q1763 (hst.recv hKV) rfl rfl (Nat.le_of_ble_eq_true rfl) dX2_reckonedRaise_60 ⟨Nat.le_of_ble_eq_true rfl, Nat.le_of_ble_eq_true rfl⟩ (by omega) (by omega) ⟨hst.sd, hqi, hqk⟩ (fun locs hL => ?_)
            refine va_mmax hx hb (X.2.2.1.trans hl.1.symm) X.2.2.2.1 (X.2.2.2.2.1 _ q1085) (X.2.2.2.2.1 _ q380) (X.2.2.2.2.1 _ q120) (X.2.2.2.2.1 _ q381) (Nat.le_of_ble_eq_true rfl) (Nat.le_of_ble_eq_true rfl) (by show 9 ≤ 9; omega) (by show 141 ≤ 141; omega) dX2_reckonedRaise_63 ?_
            refine W.stk (w := mxI (dueL ro i s0 ((actL ro n).take k)) (dueI ro i ((actL ro n).getD k 0) s0)) rfl ?_
            refine W.stk (w := (dueL ro i s0 ((actL ro n).take (k + 1)))) (by rw [due_s (by omega), if_neg (fun e => c_47 (by rw [e]))]) ?_
            refine lv_istore_n (lv' := [(3, .int _), (6, .ref _), (0, .ref _), (1, .ref _), (2, .int _), (4, .ref _), (5, .int _)]) hx hb dX2_reckonedRaise_66 rfl hl (by decide) rfl (fun ls hl => ?_)
            refine lv_iinc (v := nI (k + 1)) (lv' := [(5, .int _), (3, .int _), (6, .ref _), (0, .ref _), (1, .ref _), (2, .int _), (4, .ref _)]) hx hb dX2_reckonedRaise_67 hl (k := 6) rfl (nI_iinc _ 1 rfl) (by decide) rfl (fun ls hl => ?_)
            refine lv_goto (tgt := 22) hx hb dX2_reckonedRaise_70 (by decide) ?_
            exact W.widen (by omega) (by omega) (ih22 (k + 1) (by omega) (by omega) _ hL ls (lv_sub hl [3, 4, 5, 1, 6, 0] rfl))
          ·
            refine lv_iload_n hx hb dX2_reckonedRaise_50 rfl (lv_at hl 4 rfl) ?_
            refine W.stk (w := (dueL ro i s0 ((actL ro n).take (k + 1)))) (by rw [due_s (by omega), if_pos (hinj _ i (List.mem_range.mp (act_in (getD_mem (by omega)))) hi (Option.some.inj (by first | exact c_47 | exact Classical.byContradiction c_47)))]) ?_
            refine lv_goto (tgt := 66) hx hb dX2_reckonedRaise_51 (by decide) ?_
            refine lv_istore_n (lv' := [(3, .int _), (6, .ref _), (0, .ref _), (1, .ref _), (2, .int _), (4, .ref _), (5, .int _)]) hx hb dX2_reckonedRaise_66 rfl hl (by decide) rfl (fun ls hl => ?_)
            refine lv_iinc (v := nI (k + 1)) (lv' := [(5, .int _), (3, .int _), (6, .ref _), (0, .ref _), (1, .ref _), (2, .int _), (4, .ref _)]) hx hb dX2_reckonedRaise_67 hl (k := 6) rfl (nI_iinc _ 1 rfl) (by decide) rfl (fun ls hl => ?_)
            refine lv_goto (tgt := 22) hx hb dX2_reckonedRaise_70 (by decide) ?_
            exact W.widen (by omega) (by omega) (ih22 (k + 1) (by omega) (by omega) _ hL ls (lv_sub hl [3, 4, 5, 1, 6, 0] rfl))
    exact W.widen (by omega) (by omega) (L22 ((actL ro n).length + 1) 0 (by omega) (by omega) _ hL ls (lv_sub hl [3, 4, 5, 2, 1, 0] rfl))
  ·
    refine lv_iconst (v := (-1)) hx hb dX2_reckonedRaise_9 (by decide) ?_
    exact r_iret X hL rfl rfl dX2_reckonedRaise_10 (by omega) (by omega) ⟨by rw [c_6]; rfl, hE⟩
theorem vb_X2_reckonedRaise : VB yX2_reckonedRaise cX2_reckonedRaise 7 (some .int) 2 := ⟨q1760, q1761, q100, q1762, ⟨by decide, by decide, by decide +kernel⟩⟩

set_option maxRecDepth 100000 in
set_option maxHeartbeats 4000000 in
theorem ct_X2_isReached (l : Launch) (g : GT) (ro : Nat → Int32) (a : Nat) (x : Nat → Nat) (L : List Nat) (b : Nat) (s1 u1 s2 u2 : Nat) (hLn : L.length ≤ 40) (h1 : s1 < 4) (h2 : s2 < 4) : Ct l g yX2_isReached cX2_isReached 9 (some .boolean) 5 0 0 [.ref a, .ref b, .int (nI s1), .int (nI u1), .int (nI s2), .int (nI u2)] (fun H => SdQ g ro a H ∧ BgQ g x L b H ∧ OfL g ro x L H) (fun r H H1 => r = some (.int (bI (rdB ro L s1 s2 u1 u2))) ∧ H1 = H) := by
  refine Ct.of (by decide) (Nat.le_of_ble_eq_true rfl) ?_
  intro p e s m args below meth c X hP ls hl
  have hx := X.1
  have hb := X.2.1
  have hKV := X.2.2.2.2.2.2.2.1.1
  have hL : ∀ q ∈ ([] : List Loc), gLo g ≤ q.base := fun _ h => by cases h
  obtain ⟨⟨sb, sd, PS, v1, v2, ob, hsd⟩, ⟨PB, hbg⟩, ho⟩ := hP
  have hl : lv_has ls 9 [(0, .ref a), (1, .ref b), (2, .int (nI s1)), (3, .int (nI u1)), (4, .int (nI s2)), (5, .int (nI u2))] := hl
  refine lv_iconst (v := nI 0) hx hb dX2_isReached_0 (by decide) ?_
  refine lv_istore (lv' := [(6, .int _), (0, .ref _), (1, .ref _), (2, .int _), (3, .int _), (4, .int _), (5, .int _)]) hx hb dX2_isReached_1 hl (by decide) rfl (fun ls hl => ?_)
  refine lv_iconst (v := nI 0) hx hb dX2_isReached_3 (by decide) ?_
  refine lv_istore (lv' := [(7, .int _), (6, .int _), (0, .ref _), (1, .ref _), (2, .int _), (3, .int _), (4, .int _), (5, .int _)]) hx hb dX2_isReached_4 hl (by decide) rfl (fun ls hl => ?_)
  have L6 : ∀ (fuel : Nat) (k : Nat), L.length - k < fuel → (k ≤ L.length) → ∀ (locs : List Loc), (∀ q ∈ locs, gLo g ≤ q.base) → ∀ (ls : Array Slot), lv_has ls 9 [(0, .ref a), (1, .ref b), (2, .int (nI s1)), (3, .int (nI u1)), (4, .int (nI s2)), (5, .int (nI u2)), (6, .int (bI (rdB ro (L.take k) s1 s2 u1 u2))), (7, .int (nI k))] → W p l e (rmL 5 0 0) s m args below meth c s.heap locs 0 0 (MQ below (Qcg (fun r H H1 => r = some (.int (bI (rdB ro L s1 s2 u1 u2))) ∧ H1 = H)) args s 0 0 (fre g)) (F0 m 6 ls []) := by
    intro fuel
    induction fuel with
    | zero => intro k hfu; exact absurd hfu (Nat.not_lt_zero _)
    | succ fuel ih6 =>
      intro k hfu hk  locs hL ls hl
      refine lv_iload hx hb dX2_isReached_6 (lv_at hl 7 rfl) ?_
      refine lv_aload_n hx hb dX2_isReached_8 rfl (lv_at hl 1 rfl) ?_
      refine Cp.callV (v := .int (nI L.length)) (ct_X3_size l g PB (XL x L) L.length b ) X hL hl vb_X3_size q564 (hbg.recv hKV) rfl rfl (Nat.le_of_ble_eq_true rfl) dX2_isReached_9 ⟨Nat.le_of_ble_eq_true rfl, Nat.le_of_ble_eq_true rfl⟩ (by omega) (by omega) hbg (fun locs hL => ?_)
      refine n_icmp_ge (tgt := 74) X dX2_isReached_12 (by decide) (by omega) (by omega) (fun c_12 => ?_) (fun c_12 => ?_)
      ·
        refine lv_iload hx hb dX2_isReached_74 (lv_at hl 6 rfl) ?_
        exact r_iret X hL rfl (narrow_bI _) dX2_isReached_76 (by omega) (by omega) ⟨by have e4 : k = L.length := (by omega); subst e4; rw [List.take_length], rfl⟩
      ·
        refine lv_iload hx hb dX2_isReached_15 (lv_at hl 6 rfl) ?_
        refine b_ifne (tgt := 74) X dX2_isReached_17 (by decide) (fun c_17 => ?_) (fun c_17 => ?_)
        ·
          refine lv_iload hx hb dX2_isReached_74 (lv_at hl 6 rfl) ?_
          exact r_iret X hL rfl (narrow_bI _) dX2_isReached_76 (by omega) (by omega) ⟨by rw [c_17]; exact congrArg (fun z => some (Value.int (bI z))) (anyP_t c_17).symm, rfl⟩
        ·
          refine lv_aload_n hx hb dX2_isReached_20 rfl (lv_at hl 1 rfl) ?_
          refine lv_iload hx hb dX2_isReached_21 (lv_at hl 7 rfl) ?_
          refine Cp.callV (v := .ref (x (L.getD k 0))) (ct_X3_get l g PB (XL x L) L.length b k (by omega)) X hL hl vb_X3_get q568 (hbg.recv hKV) rfl rfl (Nat.le_of_ble_eq_true rfl) dX2_isReached_23 ⟨Nat.le_of_ble_eq_true rfl, Nat.le_of_ble_eq_true rfl⟩ (by omega) (by omega) hbg (fun locs hL => ?_)
          obtain ⟨I2, hq2⟩ := ho _ (getD_mem (L := L) (k := k) (by omega))
          obtain ⟨fq2, oq2⟩ := OfQ.ob ⟨I2, hq2⟩
          refine r_cast (ci := 5) X rfl oq2 q572 dX2_isReached_26 ?_
          refine lv_astore (lv' := [(8, .ref _), (0, .ref _), (1, .ref _), (2, .int _), (3, .int _), (4, .int _), (5, .int _), (6, .int _), (7, .int _)]) hx hb dX2_isReached_29 hl (by decide) rfl (fun ls hl => ?_)
          refine lv_aload_n hx hb dX2_isReached_31 rfl (lv_at hl 1 rfl) ?_
          refine r_get (C := RX2) (T := TX2) (N := 4) (ci := 2) X in_X2 rfl 1 (Nat.le_of_ble_eq_true rfl) q212 (fun _ h => h) ob rfl dX2_isReached_32 ?_
          refine lv_aload hx hb dX2_isReached_35 (lv_at hl 0 rfl) ?_
          refine lv_iload_n hx hb dX2_isReached_37 rfl (lv_at hl 3 rfl) ?_
          refine Cp.callV (v := .int (goodI (mw ro) (mv ro (L.getD k 0)) s1)) (ct_X4_good l g PS ro sd I2 (mv ro (L.getD k 0)) (x (L.getD k 0)) s1 h1) X hL hl vb_X4_good q1286 (hsd.recv hKV) rfl rfl (Nat.le_of_ble_eq_true rfl) dX2_isReached_38 ⟨Nat.le_of_ble_eq_true rfl, Nat.le_of_ble_eq_true rfl⟩ (by omega) (by omega) ⟨hsd, hq2⟩ (fun locs hL => ?_)
          refine lv_iload_n hx hb dX2_isReached_41 rfl (lv_at hl 4 rfl) ?_
          refine lv_icmp_lt (tgt := 65) hx hb dX2_isReached_42 (by decide) (fun c_42 => ?_) (fun c_42 => ?_)
          ·
            refine lv_iconst (v := nI 0) hx hb dX2_isReached_65 (by decide) ?_
            refine W.stk (w := (bI (rdB ro (L.take (k + 1)) s1 s2 u1 u2))) (v8 (by rw [rd_s (by omega), c_17]; first | (rw [decide_eq_false (nle_of_lt c_42)]; simp; done) | (rw [decide_eq_false (nle_of_lt c_58)]; simp; done))) ?_
            refine lv_istore (lv' := [(6, .int _), (8, .ref _), (0, .ref _), (1, .ref _), (2, .int _), (3, .int _), (4, .int _), (5, .int _), (7, .int _)]) hx hb dX2_isReached_66 hl (by decide) rfl (fun ls hl => ?_)
            refine lv_iinc (v := nI (k + 1)) (lv' := [(7, .int _), (6, .int _), (8, .ref _), (0, .ref _), (1, .ref _), (2, .int _), (3, .int _), (4, .int _), (5, .int _)]) hx hb dX2_isReached_68 hl (k := 8) rfl (nI_iinc _ 1 rfl) (by decide) rfl (fun ls hl => ?_)
            refine lv_goto (tgt := 6) hx hb dX2_isReached_71 (by decide) ?_
            exact ih6 (k + 1) (by omega) (by omega) _ hL ls (lv_sub hl [3, 4, 5, 6, 7, 8, 1, 0] rfl)
          ·
            refine lv_aload_n hx hb dX2_isReached_45 rfl (lv_at hl 1 rfl) ?_
            refine r_get (C := RX2) (T := TX2) (N := 4) (ci := 2) X in_X2 rfl 1 (Nat.le_of_ble_eq_true rfl) q212 (fun _ h => h) ob rfl dX2_isReached_46 ?_
            refine lv_aload hx hb dX2_isReached_49 (lv_at hl 0 rfl) ?_
            refine lv_iload hx hb dX2_isReached_51 (lv_at hl 5 rfl) ?_
            refine Cp.callV (v := .int (goodI (mw ro) (mv ro (L.getD k 0)) s2)) (ct_X4_good l g PS ro sd I2 (mv ro (L.getD k 0)) (x (L.getD k 0)) s2 h2) X hL hl vb_X4_good q1286 (hsd.recv hKV) rfl rfl (Nat.le_of_ble_eq_true rfl) dX2_isReached_53 ⟨Nat.le_of_ble_eq_true rfl, Nat.le_of_ble_eq_true rfl⟩ (by omega) (by omega) ⟨hsd, hq2⟩ (fun locs hL => ?_)
            refine lv_iload hx hb dX2_isReached_56 (lv_at hl 6 rfl) ?_
            refine lv_icmp_lt (tgt := 65) hx hb dX2_isReached_58 (by decide) (fun c_58 => ?_) (fun c_58 => ?_)
            ·
              refine lv_iconst (v := nI 0) hx hb dX2_isReached_65 (by decide) ?_
              refine W.stk (w := (bI (rdB ro (L.take (k + 1)) s1 s2 u1 u2))) (v8 (by rw [rd_s (by omega), c_17]; first | (rw [decide_eq_false (nle_of_lt c_42)]; simp; done) | (rw [decide_eq_false (nle_of_lt c_58)]; simp; done))) ?_
              refine lv_istore (lv' := [(6, .int _), (8, .ref _), (0, .ref _), (1, .ref _), (2, .int _), (3, .int _), (4, .int _), (5, .int _), (7, .int _)]) hx hb dX2_isReached_66 hl (by decide) rfl (fun ls hl => ?_)
              refine lv_iinc (v := nI (k + 1)) (lv' := [(7, .int _), (6, .int _), (8, .ref _), (0, .ref _), (1, .ref _), (2, .int _), (3, .int _), (4, .int _), (5, .int _)]) hx hb dX2_isReached_68 hl (k := 8) rfl (nI_iinc _ 1 rfl) (by decide) rfl (fun ls hl => ?_)
              refine lv_goto (tgt := 6) hx hb dX2_isReached_71 (by decide) ?_
              exact ih6 (k + 1) (by omega) (by omega) _ hL ls (lv_sub hl [3, 4, 5, 6, 7, 8, 1, 0] rfl)
            ·
              refine lv_iconst (v := nI 1) hx hb dX2_isReached_61 (by decide) ?_
              refine W.stk (w := (bI (rdB ro (L.take (k + 1)) s1 s2 u1 u2))) (v9 (by rw [rd_s (by omega), decide_eq_true (le_of_nlt c_42), decide_eq_true (le_of_nlt c_58)]; simp)) ?_
              refine lv_goto (tgt := 66) hx hb dX2_isReached_62 (by decide) ?_
              refine lv_istore (lv' := [(6, .int _), (8, .ref _), (0, .ref _), (1, .ref _), (2, .int _), (3, .int _), (4, .int _), (5, .int _), (7, .int _)]) hx hb dX2_isReached_66 hl (by decide) rfl (fun ls hl => ?_)
              refine lv_iinc (v := nI (k + 1)) (lv' := [(7, .int _), (6, .int _), (8, .ref _), (0, .ref _), (1, .ref _), (2, .int _), (3, .int _), (4, .int _), (5, .int _)]) hx hb dX2_isReached_68 hl (k := 8) rfl (nI_iinc _ 1 rfl) (by decide) rfl (fun ls hl => ?_)
              refine lv_goto (tgt := 6) hx hb dX2_isReached_71 (by decide) ?_
              exact ih6 (k + 1) (by omega) (by omega) _ hL ls (lv_sub hl [3, 4, 5, 6, 7, 8, 1, 0] rfl)
  exact L6 (L.length + 1) 0 (by omega) (by omega) _ hL ls (lv_sub hl [2, 3, 4, 5, 6, 7, 1, 0] rfl)
theorem vb_X2_isReached : VB yX2_isReached cX2_isReached 9 (some .boolean) 5 := ⟨q1284, qs42, q100, q1285, ⟨by decide, by decide, by decide +kernel⟩⟩

set_option maxRecDepth 100000 in
set_option maxHeartbeats 4000000 in
theorem ct_X2_byAllPairs (l : Launch) (g : GT) (ro : Nat → Int32) (n : Nat) (x : Nat → Nat) (a : Nat) (s1 s2 : Nat) (hn : n ≤ 40) (h1 : s1 < 4) (h2 : s2 < 4) : Ct l g yX2_byAllPairs cX2_byAllPairs 6 (some .int) 14 9 141 [.ref a, .int (nI s1), .int (nI s2)] (fun H => StQ g ro n x a H) (fun r H H1 => r = some (.int (nI (prsN ro n s1 s2))) ∧ Ext H H1) := by
  refine Ct.of (by decide) (Nat.le_of_ble_eq_true rfl) ?_
  intro p e s m args below meth c X hP ls hl
  have hx := X.1
  have hb := X.2.1
  have hKV := X.2.2.2.2.2.2.2.1.1
  have hL : ∀ q ∈ ([] : List Loc), gLo g ≤ q.base := fun _ h => by cases h
  have hst := hP
  have hst9 := hst
  obtain ⟨sb, sd, PB, PS, ob, hbg, hsd, hof, hinj⟩ := hst9
  have hl : lv_has ls 6 [(0, .ref a), (1, .int (nI s1)), (2, .int (nI s2))] := hl
  have hrl : (List.range n).length ≤ 40 := by rw [rng_len]; exact hn
  have hE : Ext s.heap s.heap := Ext.rfl'
  have ob0 := ob
  have hst0 := hst
  have hof0 := hof
  have hbg0 := hbg
  have hsd0 := hsd
  refine lv_aload_n hx hb dX2_byAllPairs_0 rfl (lv_at hl 0 rfl) ?_
  refine Ct.callV (ct_X2_active l g ro n x a hn) X hL hl vb_X2_active q527 (hst.recv hKV) rfl rfl (Nat.le_of_ble_eq_true rfl) dX2_byAllPairs_1 ⟨Nat.le_of_ble_eq_true rfl, Nat.le_of_ble_eq_true rfl⟩ (by omega) (by omega) hst (fun r H locs hL hp => ?_)
  obtain ⟨bb, hbb, rfl, hE1⟩ := hp
  have ob := ob.ext hE1
  have hst := hst.ext hE1
  have hof := hof.ext hE1
  have hbg := hbg.ext hE1
  have hsd := hsd.ext hE1
  have hE := hE.trans hE1
  have hqbb : BgQ g x (actL ro n) bb H := ⟨_, hbb⟩
  have hla : (actL ro n).length ≤ 40 := act_len hn
  have hofa : OfL g ro x (actL ro n) H := hof.sub (fun i hi => act_in hi)
  refine lv_astore_n (lv' := [(3, .ref _), (0, .ref _), (1, .int _), (2, .int _)]) hx hb dX2_byAllPairs_4 rfl hl (by decide) rfl (fun ls hl => ?_)
  refine lv_iconst (v := nI 0) hx hb dX2_byAllPairs_5 (by decide) ?_
  refine lv_istore (lv' := [(4, .int _), (3, .ref _), (0, .ref _), (1, .int _), (2, .int _)]) hx hb dX2_byAllPairs_6 hl (by decide) rfl (fun ls hl => ?_)
  refine lv_iconst (v := nI 0) hx hb dX2_byAllPairs_8 (by decide) ?_
  refine lv_istore (lv' := [(5, .int _), (4, .int _), (3, .ref _), (0, .ref _), (1, .int _), (2, .int _)]) hx hb dX2_byAllPairs_9 hl (by decide) rfl (fun ls hl => ?_)
  have L11 : ∀ (fuel : Nat) (v k : Nat), 10000 - k < fuel → (v = cnt (fun z => rdB ro (actL ro n) s1 s2 (z / 100) (z % 100)) k) → (k ≤ 10000) → ∀ (locs : List Loc), (∀ q ∈ locs, gLo g ≤ q.base) → ∀ (ls : Array Slot), lv_has ls 6 [(0, .ref a), (1, .int (nI s1)), (2, .int (nI s2)), (3, .ref bb), (4, .int (nI v)), (5, .int (nI k))] → W p l e (rmL 14 9 141) s m args below meth c H locs 9 141 (MQ below (Qcg (fun r H H1 => r = some (.int (nI (prsN ro n s1 s2))) ∧ Ext H H1)) args s 9 141 (fre g)) (F0 m 11 ls []) := by
    intro fuel
    induction fuel with
    | zero => intro v k hfu; exact absurd hfu (Nat.not_lt_zero _)
    | succ fuel ih11 =>
      intro v k hfu hv hk  locs hL ls hl
      have hvl : v ≤ k := by rw [hv]; exact cnt_le _ _
      refine lv_iload hx hb dX2_byAllPairs_11 (lv_at hl 5 rfl) ?_
      refine lv_sipush (v := nI 10000) hx hb dX2_byAllPairs_13 (by decide) ?_
      refine n_icmp_ge (tgt := 50) X dX2_byAllPairs_16 (by decide) (by omega) (by omega) (fun c_16 => ?_) (fun c_16 => ?_)
      ·
        refine lv_iload hx hb dX2_byAllPairs_50 (lv_at hl 4 rfl) ?_
        exact r_iret X hL rfl rfl dX2_byAllPairs_52 (by omega) (by omega) ⟨by rw [hv, show k = 10000 by omega]; rfl, hE⟩
      ·
        refine lv_iload hx hb dX2_byAllPairs_19 (lv_at hl 4 rfl) ?_
        refine lv_aload_n hx hb dX2_byAllPairs_21 rfl (lv_at hl 0 rfl) ?_
        refine lv_aload_n hx hb dX2_byAllPairs_22 rfl (lv_at hl 3 rfl) ?_
        refine lv_iload_n hx hb dX2_byAllPairs_23 rfl (lv_at hl 1 rfl) ?_
        refine lv_iload hx hb dX2_byAllPairs_24 (lv_at hl 5 rfl) ?_
        refine lv_bipush (v := nI 100) hx hb dX2_byAllPairs_26 (by decide) ?_
        refine lv_idiv hx hb dX2_byAllPairs_28 (by decide) ?_
        refine W.stk (w := (nI (k / 100))) (pk_div (by omega) (by omega) (by omega)) ?_
        refine lv_iload_n hx hb dX2_byAllPairs_29 rfl (lv_at hl 2 rfl) ?_
        refine lv_iload hx hb dX2_byAllPairs_30 (lv_at hl 5 rfl) ?_
        refine lv_bipush (v := nI 100) hx hb dX2_byAllPairs_32 (by decide) ?_
        refine lv_irem hx hb dX2_byAllPairs_34 (by decide) ?_
        refine W.stk (w := (nI (k % 100))) (pk_rem (by omega) (by omega) (by omega)) ?_
        refine Cp.callV (v := .int (bI (rdB ro (actL ro n) s1 s2 (k / 100) (k % 100)))) (ct_X2_isReached l g ro a x (actL ro n) bb s1 (k / 100) s2 (k % 100) hla h1 h2) X hL hl vb_X2_isReached q1282 (hst.recv hKV) rfl rfl (Nat.le_of_ble_eq_true rfl) dX2_byAllPairs_35 ⟨Nat.le_of_ble_eq_true rfl, Nat.le_of_ble_eq_true rfl⟩ (by omega) (by omega) ⟨hst.sd, hqbb, hofa⟩ (fun locs hL => ?_)
        refine Cp.callSN (v := .int (bI (rdB ro (actL ro n) s1 s2 (k / 100) (k % 100)))) (ct_X1_flag l g (rdB ro (actL ro n) s1 s2 (k / 100) (k % 100)) ) X hL hl sb_X1_flag q1098 rfl rfl (Nat.le_of_ble_eq_true rfl) dX2_byAllPairs_38 ⟨Nat.le_of_ble_eq_true rfl, Nat.le_of_ble_eq_true rfl⟩ (by omega) (by omega) trivial (fun locs hL => ?_)
        refine lv_iadd hx hb dX2_byAllPairs_41 ?_
        refine W.stk (w := (nI (v + (if rdB ro (actL ro n) s1 s2 (k / 100) (k % 100) then 1 else 0)))) (add_bI v _) ?_
        refine lv_istore (lv' := [(4, .int _), (0, .ref _), (1, .int _), (2, .int _), (3, .ref _), (5, .int _)]) hx hb dX2_byAllPairs_42 hl (by decide) rfl (fun ls hl => ?_)
        refine lv_iinc (v := nI (k + 1)) (lv' := [(5, .int _), (4, .int _), (0, .ref _), (1, .int _), (2, .int _), (3, .ref _)]) hx hb dX2_byAllPairs_44 hl (k := 5) rfl (nI_iinc _ 1 rfl) (by decide) rfl (fun ls hl => ?_)
        refine lv_goto (tgt := 11) hx hb dX2_byAllPairs_47 (by decide) ?_
        exact W.widen (by omega) (by omega) (ih11 _ (k + 1) (by omega) (cnt_b hv) (by omega) _ hL ls (lv_sub hl [2, 3, 4, 5, 1, 0] rfl))
  exact W.widen (by omega) (by omega) (L11 10001 0 0 (by omega) rfl (by omega) _ hL ls (lv_sub hl [3, 4, 5, 2, 1, 0] rfl))
theorem vb_X2_byAllPairs : VB yX2_byAllPairs cX2_byAllPairs 6 (some .int) 2 := ⟨q1279, q1280, q100, q1281, ⟨by decide, by decide, by decide +kernel⟩⟩

set_option maxRecDepth 100000 in
set_option maxHeartbeats 4000000 in
theorem ct_X2_bestFrom (l : Launch) (g : GT) (ro : Nat → Int32) (a : Nat) (x : Nat → Nat) (L : List Nat) (b : Nat) (s1 u1 s2 : Nat) (hLn : L.length ≤ 40) (h1 : s1 < 4) (h2 : s2 < 4) : Ct l g yX2_bestFrom cX2_bestFrom 8 (some .int) 5 0 0 [.ref a, .ref b, .int (nI s1), .int (nI u1), .int (nI s2)] (fun H => SdQ g ro a H ∧ BgQ g x L b H ∧ OfL g ro x L H) (fun r H H1 => r = some (.int (bsL ro s1 s2 (nI u1) L)) ∧ H1 = H) := by
  refine Ct.of (by decide) (Nat.le_of_ble_eq_true rfl) ?_
  intro p e s m args below meth c X hP ls hl
  have hx := X.1
  have hb := X.2.1
  have hKV := X.2.2.2.2.2.2.2.1.1
  have hL : ∀ q ∈ ([] : List Loc), gLo g ≤ q.base := fun _ h => by cases h
  obtain ⟨⟨sb, sd, PS, v1, v2, ob, hsd⟩, ⟨PB, hbg⟩, ho⟩ := hP
  have hl : lv_has ls 8 [(0, .ref a), (1, .ref b), (2, .int (nI s1)), (3, .int (nI u1)), (4, .int (nI s2))] := hl
  refine lv_iconst (v := (-1)) hx hb dX2_bestFrom_0 (by decide) ?_
  refine lv_istore (lv' := [(5, .int _), (0, .ref _), (1, .ref _), (2, .int _), (3, .int _), (4, .int _)]) hx hb dX2_bestFrom_1 hl (by decide) rfl (fun ls hl => ?_)
  refine lv_iconst (v := nI 0) hx hb dX2_bestFrom_3 (by decide) ?_
  refine lv_istore (lv' := [(6, .int _), (5, .int _), (0, .ref _), (1, .ref _), (2, .int _), (3, .int _), (4, .int _)]) hx hb dX2_bestFrom_4 hl (by decide) rfl (fun ls hl => ?_)
  have L6 : ∀ (fuel : Nat) (k : Nat), L.length - k < fuel → (k ≤ L.length) → ∀ (locs : List Loc), (∀ q ∈ locs, gLo g ≤ q.base) → ∀ (ls : Array Slot), lv_has ls 8 [(0, .ref a), (1, .ref b), (2, .int (nI s1)), (3, .int (nI u1)), (4, .int (nI s2)), (5, .int (bsL ro s1 s2 (nI u1) (L.take k))), (6, .int (nI k))] → W p l e (rmL 5 0 0) s m args below meth c s.heap locs 0 0 (MQ below (Qcg (fun r H H1 => r = some (.int (bsL ro s1 s2 (nI u1) L)) ∧ H1 = H)) args s 0 0 (fre g)) (F0 m 6 ls []) := by
    intro fuel
    induction fuel with
    | zero => intro k hfu; exact absurd hfu (Nat.not_lt_zero _)
    | succ fuel ih6 =>
      intro k hfu hk  locs hL ls hl
      refine lv_iload hx hb dX2_bestFrom_6 (lv_at hl 6 rfl) ?_
      refine lv_aload_n hx hb dX2_bestFrom_8 rfl (lv_at hl 1 rfl) ?_
      refine Cp.callV (v := .int (nI L.length)) (ct_X3_size l g PB (XL x L) L.length b ) X hL hl vb_X3_size q564 (hbg.recv hKV) rfl rfl (Nat.le_of_ble_eq_true rfl) dX2_bestFrom_9 ⟨Nat.le_of_ble_eq_true rfl, Nat.le_of_ble_eq_true rfl⟩ (by omega) (by omega) hbg (fun locs hL => ?_)
      refine n_icmp_ge (tgt := 69) X dX2_bestFrom_12 (by decide) (by omega) (by omega) (fun c_12 => ?_) (fun c_12 => ?_)
      ·
        refine lv_iload hx hb dX2_bestFrom_69 (lv_at hl 5 rfl) ?_
        exact r_iret X hL rfl rfl dX2_bestFrom_71 (by omega) (by omega) ⟨by have e4 : k = L.length := (by omega); subst e4; rw [List.take_length], rfl⟩
      ·
        refine lv_aload_n hx hb dX2_bestFrom_15 rfl (lv_at hl 1 rfl) ?_
        refine lv_iload hx hb dX2_bestFrom_16 (lv_at hl 6 rfl) ?_
        refine Cp.callV (v := .ref (x (L.getD k 0))) (ct_X3_get l g PB (XL x L) L.length b k (by omega)) X hL hl vb_X3_get q568 (hbg.recv hKV) rfl rfl (Nat.le_of_ble_eq_true rfl) dX2_bestFrom_18 ⟨Nat.le_of_ble_eq_true rfl, Nat.le_of_ble_eq_true rfl⟩ (by omega) (by omega) hbg (fun locs hL => ?_)
        obtain ⟨I2, hq2⟩ := ho _ (getD_mem (L := L) (k := k) (by omega))
        obtain ⟨fq2, oq2⟩ := OfQ.ob ⟨I2, hq2⟩
        refine r_cast (ci := 5) X rfl oq2 q572 dX2_bestFrom_21 ?_
        refine lv_astore (lv' := [(7, .ref _), (0, .ref _), (1, .ref _), (2, .int _), (3, .int _), (4, .int _), (5, .int _), (6, .int _)]) hx hb dX2_bestFrom_24 hl (by decide) rfl (fun ls hl => ?_)
        refine lv_aload_n hx hb dX2_bestFrom_26 rfl (lv_at hl 1 rfl) ?_
        refine r_get (C := RX2) (T := TX2) (N := 4) (ci := 2) X in_X2 rfl 1 (Nat.le_of_ble_eq_true rfl) q212 (fun _ h => h) ob rfl dX2_bestFrom_27 ?_
        refine lv_aload hx hb dX2_bestFrom_30 (lv_at hl 0 rfl) ?_
        refine lv_iload_n hx hb dX2_bestFrom_32 rfl (lv_at hl 3 rfl) ?_
        refine Cp.callV (v := .int (goodI (mw ro) (mv ro (L.getD k 0)) s1)) (ct_X4_good l g PS ro sd I2 (mv ro (L.getD k 0)) (x (L.getD k 0)) s1 h1) X hL hl vb_X4_good q1286 (hsd.recv hKV) rfl rfl (Nat.le_of_ble_eq_true rfl) dX2_bestFrom_33 ⟨Nat.le_of_ble_eq_true rfl, Nat.le_of_ble_eq_true rfl⟩ (by omega) (by omega) ⟨hsd, hq2⟩ (fun locs hL => ?_)
        refine lv_iload_n hx hb dX2_bestFrom_36 rfl (lv_at hl 4 rfl) ?_
        refine lv_icmp_lt (tgt := 59) hx hb dX2_bestFrom_37 (by decide) (fun c_37 => ?_) (fun c_37 => ?_)
        ·
          refine lv_iload hx hb dX2_bestFrom_59 (lv_at hl 6 rfl) ?_
          refine W.stk (w := (bsL ro s1 s2 (nI u1) (L.take (k + 1)))) (by rw [bs_s (by omega), if_neg (nle_of_lt c_37)]) ?_
          refine lv_istore (lv' := [(5, .int _), (7, .ref _), (0, .ref _), (1, .ref _), (2, .int _), (3, .int _), (4, .int _), (6, .int _)]) hx hb dX2_bestFrom_61 hl (by decide) rfl (fun ls hl => ?_)
          refine lv_iinc (v := nI (k + 1)) (lv' := [(6, .int _), (5, .int _), (7, .ref _), (0, .ref _), (1, .ref _), (2, .int _), (3, .int _), (4, .int _)]) hx hb dX2_bestFrom_63 hl (k := 7) rfl (nI_iinc _ 1 rfl) (by decide) rfl (fun ls hl => ?_)
          refine lv_goto (tgt := 6) hx hb dX2_bestFrom_66 (by decide) ?_
          exact ih6 (k + 1) (by omega) (by omega) _ hL ls (lv_sub hl [3, 4, 5, 6, 7, 1, 0] rfl)
        ·
          refine lv_iload hx hb dX2_bestFrom_40 (lv_at hl 6 rfl) ?_
          refine lv_aload_n hx hb dX2_bestFrom_42 rfl (lv_at hl 1 rfl) ?_
          refine r_get (C := RX2) (T := TX2) (N := 4) (ci := 2) X in_X2 rfl 1 (Nat.le_of_ble_eq_true rfl) q212 (fun _ h => h) ob rfl dX2_bestFrom_43 ?_
          refine lv_aload hx hb dX2_bestFrom_46 (lv_at hl 0 rfl) ?_
          refine lv_iload hx hb dX2_bestFrom_48 (lv_at hl 5 rfl) ?_
          refine Cp.callV (v := .int (goodI (mw ro) (mv ro (L.getD k 0)) s2)) (ct_X4_good l g PS ro sd I2 (mv ro (L.getD k 0)) (x (L.getD k 0)) s2 h2) X hL hl vb_X4_good q1286 (hsd.recv hKV) rfl rfl (Nat.le_of_ble_eq_true rfl) dX2_bestFrom_50 ⟨Nat.le_of_ble_eq_true rfl, Nat.le_of_ble_eq_true rfl⟩ (by omega) (by omega) ⟨hsd, hq2⟩ (fun locs hL => ?_)
          refine va_mmax hx hb (X.2.2.1.trans hl.1.symm) X.2.2.2.1 (X.2.2.2.2.1 _ q1085) (X.2.2.2.2.1 _ q380) (X.2.2.2.2.1 _ q120) (X.2.2.2.2.1 _ q381) (Nat.le_of_ble_eq_true rfl) (Nat.le_of_ble_eq_true rfl) (by show 0 ≤ 0; omega) (by show 0 ≤ 0; omega) dX2_bestFrom_53 ?_
          refine W.stk (w := mxI (bsL ro s1 s2 (nI u1) (L.take k)) (goodI (mw ro) (mv ro (L.getD k 0)) s2)) rfl ?_
          refine W.stk (w := (bsL ro s1 s2 (nI u1) (L.take (k + 1)))) (by rw [bs_s (by omega), if_pos (le_of_nlt c_37)]) ?_
          refine lv_goto (tgt := 61) hx hb dX2_bestFrom_56 (by decide) ?_
          refine lv_istore (lv' := [(5, .int _), (7, .ref _), (0, .ref _), (1, .ref _), (2, .int _), (3, .int _), (4, .int _), (6, .int _)]) hx hb dX2_bestFrom_61 hl (by decide) rfl (fun ls hl => ?_)
          refine lv_iinc (v := nI (k + 1)) (lv' := [(6, .int _), (5, .int _), (7, .ref _), (0, .ref _), (1, .ref _), (2, .int _), (3, .int _), (4, .int _)]) hx hb dX2_bestFrom_63 hl (k := 7) rfl (nI_iinc _ 1 rfl) (by decide) rfl (fun ls hl => ?_)
          refine lv_goto (tgt := 6) hx hb dX2_bestFrom_66 (by decide) ?_
          exact ih6 (k + 1) (by omega) (by omega) _ hL ls (lv_sub hl [3, 4, 5, 6, 7, 1, 0] rfl)
  exact L6 (L.length + 1) 0 (by omega) (by omega) _ hL ls (lv_sub hl [2, 3, 4, 5, 6, 1, 0] rfl)
theorem vb_X2_bestFrom : VB yX2_bestFrom cX2_bestFrom 8 (some .int) 4 := ⟨q1293, qs43, q100, q1294, ⟨by decide, by decide, by decide +kernel⟩⟩

set_option maxRecDepth 100000 in
set_option maxHeartbeats 4000000 in
theorem ct_X2_bySteps (l : Launch) (g : GT) (ro : Nat → Int32) (n : Nat) (x : Nat → Nat) (a : Nat) (s1 s2 : Nat) (hn : n ≤ 40) (h1 : s1 < 4) (h2 : s2 < 4) : Ct l g yX2_bySteps cX2_bySteps 6 (some .int) 14 9 141 [.ref a, .int (nI s1), .int (nI s2)] (fun H => StQ g ro n x a H) (fun r H H1 => r = some (.int (stL ro n s1 s2 100)) ∧ Ext H H1) := by
  refine Ct.of (by decide) (Nat.le_of_ble_eq_true rfl) ?_
  intro p e s m args below meth c X hP ls hl
  have hx := X.1
  have hb := X.2.1
  have hKV := X.2.2.2.2.2.2.2.1.1
  have hL : ∀ q ∈ ([] : List Loc), gLo g ≤ q.base := fun _ h => by cases h
  have hst := hP
  have hst9 := hst
  obtain ⟨sb, sd, PB, PS, ob, hbg, hsd, hof, hinj⟩ := hst9
  have hl : lv_has ls 6 [(0, .ref a), (1, .int (nI s1)), (2, .int (nI s2))] := hl
  have hrl : (List.range n).length ≤ 40 := by rw [rng_len]; exact hn
  have hE : Ext s.heap s.heap := Ext.rfl'
  have ob0 := ob
  have hst0 := hst
  have hof0 := hof
  have hbg0 := hbg
  have hsd0 := hsd
  refine lv_aload_n hx hb dX2_bySteps_0 rfl (lv_at hl 0 rfl) ?_
  refine Ct.callV (ct_X2_active l g ro n x a hn) X hL hl vb_X2_active q527 (hst.recv hKV) rfl rfl (Nat.le_of_ble_eq_true rfl) dX2_bySteps_1 ⟨Nat.le_of_ble_eq_true rfl, Nat.le_of_ble_eq_true rfl⟩ (by omega) (by omega) hst (fun r H locs hL hp => ?_)
  obtain ⟨bb, hbb, rfl, hE1⟩ := hp
  have ob := ob.ext hE1
  have hst := hst.ext hE1
  have hof := hof.ext hE1
  have hbg := hbg.ext hE1
  have hsd := hsd.ext hE1
  have hE := hE.trans hE1
  have hqbb : BgQ g x (actL ro n) bb H := ⟨_, hbb⟩
  have hla : (actL ro n).length ≤ 40 := act_len hn
  have hofa : OfL g ro x (actL ro n) H := hof.sub (fun i hi => act_in hi)
  refine lv_astore_n (lv' := [(3, .ref _), (0, .ref _), (1, .int _), (2, .int _)]) hx hb dX2_bySteps_4 rfl hl (by decide) rfl (fun ls hl => ?_)
  refine lv_iconst (v := nI 0) hx hb dX2_bySteps_5 (by decide) ?_
  refine lv_istore (lv' := [(4, .int _), (3, .ref _), (0, .ref _), (1, .int _), (2, .int _)]) hx hb dX2_bySteps_6 hl (by decide) rfl (fun ls hl => ?_)
  refine lv_iconst (v := nI 0) hx hb dX2_bySteps_8 (by decide) ?_
  refine lv_istore (lv' := [(5, .int _), (4, .int _), (3, .ref _), (0, .ref _), (1, .int _), (2, .int _)]) hx hb dX2_bySteps_9 hl (by decide) rfl (fun ls hl => ?_)
  have L11 : ∀ (fuel : Nat) (k : Nat), 100 - k < fuel → (k ≤ 100) → ∀ (locs : List Loc), (∀ q ∈ locs, gLo g ≤ q.base) → ∀ (ls : Array Slot), lv_has ls 6 [(0, .ref a), (1, .int (nI s1)), (2, .int (nI s2)), (3, .ref bb), (4, .int (stL ro n s1 s2 k)), (5, .int (nI k))] → W p l e (rmL 14 9 141) s m args below meth c H locs 9 141 (MQ below (Qcg (fun r H H1 => r = some (.int (stL ro n s1 s2 100)) ∧ Ext H H1)) args s 9 141 (fre g)) (F0 m 11 ls []) := by
    intro fuel
    induction fuel with
    | zero => intro k hfu; exact absurd hfu (Nat.not_lt_zero _)
    | succ fuel ih11 =>
      intro k hfu hk  locs hL ls hl
      refine lv_iload hx hb dX2_bySteps_11 (lv_at hl 5 rfl) ?_
      refine lv_bipush (v := nI 99) hx hb dX2_bySteps_13 (by decide) ?_
      refine n_icmp_gt (tgt := 40) X dX2_bySteps_15 (by decide) (by omega) (by omega) (fun c_15 => ?_) (fun c_15 => ?_)
      ·
        refine lv_iload hx hb dX2_bySteps_40 (lv_at hl 4 rfl) ?_
        exact r_iret X hL rfl rfl dX2_bySteps_42 (by omega) (by omega) ⟨by rw [show k = 100 by omega], hE⟩
      ·
        refine lv_iload hx hb dX2_bySteps_18 (lv_at hl 4 rfl) ?_
        refine lv_aload_n hx hb dX2_bySteps_20 rfl (lv_at hl 0 rfl) ?_
        refine lv_aload_n hx hb dX2_bySteps_21 rfl (lv_at hl 3 rfl) ?_
        refine lv_iload_n hx hb dX2_bySteps_22 rfl (lv_at hl 1 rfl) ?_
        refine lv_iload hx hb dX2_bySteps_23 (lv_at hl 5 rfl) ?_
        refine lv_iload_n hx hb dX2_bySteps_25 rfl (lv_at hl 2 rfl) ?_
        refine Cp.callV (v := .int (bsL ro s1 s2 (nI k) (actL ro n))) (ct_X2_bestFrom l g ro a x (actL ro n) bb s1 k s2 hla h1 h2) X hL hl vb_X2_bestFrom q1291 (hst.recv hKV) rfl rfl (Nat.le_of_ble_eq_true rfl) dX2_bySteps_26 ⟨Nat.le_of_ble_eq_true rfl, Nat.le_of_ble_eq_true rfl⟩ (by omega) (by omega) ⟨hst.sd, hqbb, hofa⟩ (fun locs hL => ?_)
        refine lv_iconst (v := nI 1) hx hb dX2_bySteps_29 (by decide) ?_
        refine lv_iadd hx hb dX2_bySteps_30 ?_
        refine lv_iadd hx hb dX2_bySteps_31 ?_
        refine W.stk (w := (stL ro n s1 s2 (k + 1))) rfl ?_
        refine lv_istore (lv' := [(4, .int _), (0, .ref _), (1, .int _), (2, .int _), (3, .ref _), (5, .int _)]) hx hb dX2_bySteps_32 hl (by decide) rfl (fun ls hl => ?_)
        refine lv_iinc (v := nI (k + 1)) (lv' := [(5, .int _), (4, .int _), (0, .ref _), (1, .int _), (2, .int _), (3, .ref _)]) hx hb dX2_bySteps_34 hl (k := 5) rfl (nI_iinc _ 1 rfl) (by decide) rfl (fun ls hl => ?_)
        refine lv_goto (tgt := 11) hx hb dX2_bySteps_37 (by decide) ?_
        exact W.widen (by omega) (by omega) (ih11 (k + 1) (by omega) (by omega) _ hL ls (lv_sub hl [2, 3, 4, 5, 1, 0] rfl))
  exact W.widen (by omega) (by omega) (L11 101 0 (by omega) (by omega) _ hL ls (lv_sub hl [3, 4, 5, 2, 1, 0] rfl))
theorem vb_X2_bySteps : VB yX2_bySteps cX2_bySteps 6 (some .int) 2 := ⟨q1288, q1289, q100, q1290, ⟨by decide, by decide, by decide +kernel⟩⟩

set_option maxRecDepth 100000 in
set_option maxHeartbeats 4000000 in
theorem ct_X2_canReach (l : Launch) (g : GT) (ro : Nat → Int32) (n : Nat) (x : Nat → Nat) (a : Nat) (s1 s2 : Nat) (hn : n ≤ 40) (hw : WO (mw ro)) (h1 : s1 < 4) (h2 : s2 < 4) : Ct l g yX2_canReach cX2_canReach 3 (some .boolean) 3 0 0 [.ref a, .int (nI s1), .int (nI s2)] (fun H => StQ g ro n x a H) (fun r H H1 => r = some (.int (bI (!decide (s1 = s2) && (matB (mw ro) s1 && matB (mw ro) s2)))) ∧ H1 = H) := by
  refine Ct.of (by decide) (Nat.le_of_ble_eq_true rfl) ?_
  intro p e s m args below meth c X hP ls hl
  have hx := X.1
  have hb := X.2.1
  have hKV := X.2.2.2.2.2.2.2.1.1
  have hL : ∀ q ∈ ([] : List Loc), gLo g ≤ q.base := fun _ h => by cases h
  have hst := hP
  have hst9 := hst
  obtain ⟨sb, sd, PB, PS, ob, hbg, hsd, hof, hinj⟩ := hst9
  have hl : lv_has ls 3 [(0, .ref a), (1, .int (nI s1)), (2, .int (nI s2))] := hl
  have hrl : (List.range n).length ≤ 40 := by rw [rng_len]; exact hn
  refine lv_iload_n hx hb dX2_canReach_0 rfl (lv_at hl 1 rfl) ?_
  refine lv_iload_n hx hb dX2_canReach_1 rfl (lv_at hl 2 rfl) ?_
  refine n_icmp_eq (tgt := 31) X dX2_canReach_2 (by decide) (by omega) (by omega) (fun c_2 => ?_) (fun c_2 => ?_)
  ·
    refine lv_iconst (v := nI 0) hx hb dX2_canReach_31 (by decide) ?_
    exact r_iret X hL rfl rfl dX2_canReach_32 (by omega) (by omega) ⟨v_f (by rw [decide_eq_true c_2]; rfl), rfl⟩
  ·
    refine lv_aload_n hx hb dX2_canReach_5 rfl (lv_at hl 0 rfl) ?_
    refine r_get (C := RX2) (T := TX2) (N := 4) (ci := 2) X in_X2 rfl 1 (Nat.le_of_ble_eq_true rfl) q212 (fun _ h => h) ob rfl dX2_canReach_6 ?_
    refine lv_iload_n hx hb dX2_canReach_9 rfl (lv_at hl 1 rfl) ?_
    refine Cp.callV (v := .int (bI (matB (mw ro) s1))) (ct_X4_matters l g PS ro sd s1 hw h1) X hL hl vb_X4_matters q1277 (hsd.recv hKV) rfl rfl (Nat.le_of_ble_eq_true rfl) dX2_canReach_10 ⟨Nat.le_of_ble_eq_true rfl, Nat.le_of_ble_eq_true rfl⟩ (by omega) (by omega) hsd (fun locs hL => ?_)
    refine b_ifeq (tgt := 31) X dX2_canReach_13 (by decide) (fun c_13 => ?_) (fun c_13 => ?_)
    ·
      refine lv_iconst (v := nI 0) hx hb dX2_canReach_31 (by decide) ?_
      exact r_iret X hL rfl rfl dX2_canReach_32 (by omega) (by omega) ⟨v_f (by rw [c_13]; simp), rfl⟩
    ·
      refine lv_aload_n hx hb dX2_canReach_16 rfl (lv_at hl 0 rfl) ?_
      refine r_get (C := RX2) (T := TX2) (N := 4) (ci := 2) X in_X2 rfl 1 (Nat.le_of_ble_eq_true rfl) q212 (fun _ h => h) ob rfl dX2_canReach_17 ?_
      refine lv_iload_n hx hb dX2_canReach_20 rfl (lv_at hl 2 rfl) ?_
      refine Cp.callV (v := .int (bI (matB (mw ro) s2))) (ct_X4_matters l g PS ro sd s2 hw h2) X hL hl vb_X4_matters q1277 (hsd.recv hKV) rfl rfl (Nat.le_of_ble_eq_true rfl) dX2_canReach_21 ⟨Nat.le_of_ble_eq_true rfl, Nat.le_of_ble_eq_true rfl⟩ (by omega) (by omega) hsd (fun locs hL => ?_)
      refine b_ifeq (tgt := 31) X dX2_canReach_24 (by decide) (fun c_24 => ?_) (fun c_24 => ?_)
      ·
        refine lv_iconst (v := nI 0) hx hb dX2_canReach_31 (by decide) ?_
        exact r_iret X hL rfl rfl dX2_canReach_32 (by omega) (by omega) ⟨v_f (by rw [c_24]; simp), rfl⟩
      ·
        refine lv_iconst (v := nI 1) hx hb dX2_canReach_27 (by decide) ?_
        refine lv_goto (tgt := 32) hx hb dX2_canReach_28 (by decide) ?_
        exact r_iret X hL rfl rfl dX2_canReach_32 (by omega) (by omega) ⟨v_t (by rw [c_13, c_24, decide_eq_false c_2]; rfl), rfl⟩
theorem vb_X2_canReach : VB yX2_canReach cX2_canReach 3 (some .boolean) 2 := ⟨q1274, q1275, q100, q1276, ⟨by decide, by decide, by decide +kernel⟩⟩

set_option maxRecDepth 100000 in
set_option maxHeartbeats 4000000 in
theorem ct_X2_pairsBeaten (l : Launch) (g : GT) (ro : Nat → Int32) (n : Nat) (x : Nat → Nat) (a : Nat) (hn : n ≤ 40) (hw : WO (mw ro)) : Ct l g yX2_pairsBeaten cX2_pairsBeaten 3 (some .int) 14 40 80 [.ref a] (fun H => StQ g ro n x a H) (fun r H H1 => r = some (.int (nI (sumN (fun i => bnN ro n (mv ro i)) n))) ∧ Ext H H1) := by
  refine Ct.of (by decide) (Nat.le_of_ble_eq_true rfl) ?_
  intro p e s m args below meth c X hP ls hl
  have hx := X.1
  have hb := X.2.1
  have hKV := X.2.2.2.2.2.2.2.1.1
  have hL : ∀ q ∈ ([] : List Loc), gLo g ≤ q.base := fun _ h => by cases h
  have hst := hP
  have hst9 := hst
  obtain ⟨sb, sd, PB, PS, ob, hbg, hsd, hof, hinj⟩ := hst9
  have hl : lv_has ls 3 [(0, .ref a)] := hl
  have hrl : (List.range n).length ≤ 40 := by rw [rng_len]; exact hn
  have hE : Ext s.heap s.heap := Ext.rfl'
  have ob0 := ob
  have hst0 := hst
  have hof0 := hof
  have hbg0 := hbg
  have hsd0 := hsd
  refine lv_iconst (v := nI 0) hx hb dX2_pairsBeaten_0 (by decide) ?_
  refine lv_istore_n (lv' := [(1, .int _), (0, .ref _)]) hx hb dX2_pairsBeaten_1 rfl hl (by decide) rfl (fun ls hl => ?_)
  refine lv_iconst (v := nI 0) hx hb dX2_pairsBeaten_2 (by decide) ?_
  refine lv_istore_n (lv' := [(2, .int _), (1, .int _), (0, .ref _)]) hx hb dX2_pairsBeaten_3 rfl hl (by decide) rfl (fun ls hl => ?_)
  have L4 : ∀ (fuel : Nat) (v i : Nat), n - i < fuel → (v = sumN (fun i => bnN ro n (mv ro i)) i) → (i ≤ n) → ∀ (H : Heap), Ext s.heap H → ∀ (locs : List Loc), (∀ q ∈ locs, gLo g ≤ q.base) → ∀ (ls : Array Slot), lv_has ls 3 [(0, .ref a), (1, .int (nI v)), (2, .int (nI i))] → W p l e (rmL 14 40 80) s m args below meth c H locs i (2 * i) (MQ below (Qcg (fun r H H1 => r = some (.int (nI (sumN (fun i => bnN ro n (mv ro i)) n))) ∧ Ext H H1)) args s 40 80 (fre g)) (F0 m 4 ls []) := by
    intro fuel
    induction fuel with
    | zero => intro v i hfu; exact absurd hfu (Nat.not_lt_zero _)
    | succ fuel ih4 =>
      intro v i hfu hv hi H hE locs hL ls hl
      have ob := ob0.ext hE
      have hst := hst0.ext hE
      have hof := hof0.ext hE
      have hbg := hbg0.ext hE
      have hsd := hsd0.ext hE
      refine lv_iload_n hx hb dX2_pairsBeaten_4 rfl (lv_at hl 2 rfl) ?_
      refine lv_aload_n hx hb dX2_pairsBeaten_5 rfl (lv_at hl 0 rfl) ?_
      refine r_get (C := RX2) (T := TX2) (N := 4) (ci := 2) X in_X2 rfl 0 (Nat.le_of_ble_eq_true rfl) q210 (fun _ h => h) ob rfl dX2_pairsBeaten_6 ?_
      refine Cp.callV (v := .int (nI ((List.range n).length))) (ct_X3_size l g PB (XL x (List.range n)) ((List.range n).length) sb ) X hL hl vb_X3_size q564 (hbg.recv hKV) rfl rfl (Nat.le_of_ble_eq_true rfl) dX2_pairsBeaten_9 ⟨Nat.le_of_ble_eq_true rfl, Nat.le_of_ble_eq_true rfl⟩ (by omega) (by omega) hbg (fun locs hL => ?_)
      rw [rng_len]
      refine n_icmp_ge (tgt := 39) X dX2_pairsBeaten_12 (by decide) (by omega) (by omega) (fun c_12 => ?_) (fun c_12 => ?_)
      ·
        refine lv_iload_n hx hb dX2_pairsBeaten_39 rfl (lv_at hl 1 rfl) ?_
        exact r_iret X hL rfl rfl dX2_pairsBeaten_40 (by omega) (by omega) ⟨by rw [hv, show i = n by omega], hE⟩
      ·
        refine lv_iload_n hx hb dX2_pairsBeaten_15 rfl (lv_at hl 1 rfl) ?_
        refine lv_aload_n hx hb dX2_pairsBeaten_16 rfl (lv_at hl 0 rfl) ?_
        refine lv_aload_n hx hb dX2_pairsBeaten_17 rfl (lv_at hl 0 rfl) ?_
        refine r_get (C := RX2) (T := TX2) (N := 4) (ci := 2) X in_X2 rfl 0 (Nat.le_of_ble_eq_true rfl) q210 (fun _ h => h) ob rfl dX2_pairsBeaten_18 ?_
        refine lv_iload_n hx hb dX2_pairsBeaten_21 rfl (lv_at hl 2 rfl) ?_
        refine Cp.callV (v := .ref (x ((List.range n).getD i 0))) (ct_X3_get l g PB (XL x (List.range n)) ((List.range n).length) sb i (by rw [rng_len]; omega)) X hL hl vb_X3_get q568 (hbg.recv hKV) rfl rfl (Nat.le_of_ble_eq_true rfl) dX2_pairsBeaten_22 ⟨Nat.le_of_ble_eq_true rfl, Nat.le_of_ble_eq_true rfl⟩ (by omega) (by omega) hbg (fun locs hL => ?_)
        rw [rng_get (show i < n by omega)]
        have hqi := hof i (rng_mem (by omega))
        obtain ⟨fqi, oqi⟩ := hqi.ob
        refine r_cast (ci := 5) X rfl oqi q572 dX2_pairsBeaten_25 ?_
        refine Ct.callV (ct_X2_beaten l g ro n x a (mv ro i) (x i) hn hw) X hL hl vb_X2_beaten q1119 (hst.recv hKV) rfl rfl (Nat.le_of_ble_eq_true rfl) dX2_pairsBeaten_28 ⟨Nat.le_of_ble_eq_true rfl, Nat.le_of_ble_eq_true rfl⟩ (by omega) (by omega) ⟨hst, hqi⟩ (fun r H locs hL hp => ?_)
        obtain ⟨rfl, hE1⟩ := hp
        have ob := ob.ext hE1
        have hst := hst.ext hE1
        have hof := hof.ext hE1
        have hbg := hbg.ext hE1
        have hsd := hsd.ext hE1
        have hE := hE.trans hE1
        refine n_iadd X dX2_pairsBeaten_31 ?_
        refine lv_istore_n (lv' := [(1, .int _), (0, .ref _), (2, .int _)]) hx hb dX2_pairsBeaten_32 rfl hl (by decide) rfl (fun ls hl => ?_)
        refine lv_iinc (v := nI (i + 1)) (lv' := [(2, .int _), (1, .int _), (0, .ref _)]) hx hb dX2_pairsBeaten_33 hl (k := 2) rfl (nI_iinc _ 1 rfl) (by decide) rfl (fun ls hl => ?_)
        refine lv_goto (tgt := 4) hx hb dX2_pairsBeaten_36 (by decide) ?_
        exact W.widen (by omega) (by omega) (ih4 _ (i + 1) (by omega) (by rw [hv]; rfl) (by omega) _ hE _ hL ls (lv_sub hl [2, 1, 0] rfl))
  exact W.widen (by omega) (by omega) (L4 (n + 1) 0 0 (by omega) rfl (by omega) _ hE _ hL ls (lv_sub hl [2, 1, 0] rfl))
theorem vb_X2_pairsBeaten : VB yX2_pairsBeaten cX2_pairsBeaten 3 (some .int) 0 := ⟨q1116, q1117, q100, q1118, ⟨by decide, by decide, by decide +kernel⟩⟩

set_option maxRecDepth 100000 in
set_option maxHeartbeats 4000000 in
theorem ct_X2_share (l : Launch) (g : GT) (ro : Nat → Int32) (n : Nat) (x : Nat → Nat) (a : Nat) (hn : n ≤ 40) (hw : WO (mw ro)) : Ct l g yX2_share cX2_share 2 (some .double) 14 27 424 [.ref a] (fun H => StQ g ro n x a H) (fun r H H1 => r = some (.double (if (actL ro n).length = 0 then FP.dconst0 else FP.ddiv (FP.i2d (nI (tolL ro (nI 15) (actL ro n)).length)) (FP.i2d (nI (actL ro n).length)))) ∧ Ext H H1) := by
  refine Ct.of (by decide) (Nat.le_of_ble_eq_true rfl) ?_
  intro p e s m args below meth c X hP ls hl
  have hx := X.1
  have hb := X.2.1
  have hKV := X.2.2.2.2.2.2.2.1.1
  have hL : ∀ q ∈ ([] : List Loc), gLo g ≤ q.base := fun _ h => by cases h
  have hst := hP
  have hst9 := hst
  obtain ⟨sb, sd, PB, PS, ob, hbg, hsd, hof, hinj⟩ := hst9
  have hl : lv_has ls 2 [(0, .ref a)] := hl
  have hrl : (List.range n).length ≤ 40 := by rw [rng_len]; exact hn
  have hE : Ext s.heap s.heap := Ext.rfl'
  have ob0 := ob
  have hst0 := hst
  have hof0 := hof
  have hbg0 := hbg
  have hsd0 := hsd
  refine lv_aload_n hx hb dX2_share_0 rfl (lv_at hl 0 rfl) ?_
  refine Ct.callV (ct_X2_active l g ro n x a hn) X hL hl vb_X2_active q527 (hst.recv hKV) rfl rfl (Nat.le_of_ble_eq_true rfl) dX2_share_1 ⟨Nat.le_of_ble_eq_true rfl, Nat.le_of_ble_eq_true rfl⟩ (by omega) (by omega) hst (fun r H locs hL hp => ?_)
  obtain ⟨b0, hb0, rfl, hE1⟩ := hp
  have ob := ob.ext hE1
  have hst := hst.ext hE1
  have hof := hof.ext hE1
  have hbg := hbg.ext hE1
  have hsd := hsd.ext hE1
  have hE := hE.trans hE1
  have hqb0 : BgQ g x (actL ro n) b0 H := ⟨_, hb0⟩
  have hla : (actL ro n).length ≤ 40 := act_len hn
  have hofa : OfL g ro x (actL ro n) H := hof.sub (fun i hi => act_in hi)
  refine Cp.callV (v := .int (nI ((actL ro n).length))) (ct_X3_size l g _ (XL x (actL ro n)) ((actL ro n).length) b0 ) X hL hl vb_X3_size q564 (hb0.recv hKV) rfl rfl (Nat.le_of_ble_eq_true rfl) dX2_share_4 ⟨Nat.le_of_ble_eq_true rfl, Nat.le_of_ble_eq_true rfl⟩ (by omega) (by omega) hb0 (fun locs hL => ?_)
  refine lv_istore_n (lv' := [(1, .int _), (0, .ref _)]) hx hb dX2_share_7 rfl hl (by decide) rfl (fun ls hl => ?_)
  refine lv_iload_n hx hb dX2_share_8 rfl (lv_at hl 0 rfl) ?_
  refine n_ifne (tgt := 16) X dX2_share_9 (by decide) (by omega) (fun c_9 => ?_) (fun c_9 => ?_)
  ·
    refine lv_aload_n hx hb dX2_share_16 rfl (lv_at hl 1 rfl) ?_
    refine lv_aload_n hx hb dX2_share_17 rfl (lv_at hl 1 rfl) ?_
    refine Ct.callV (ct_X2_active l g ro n x a hn) X hL hl vb_X2_active q527 (hst.recv hKV) rfl rfl (Nat.le_of_ble_eq_true rfl) dX2_share_18 ⟨Nat.le_of_ble_eq_true rfl, Nat.le_of_ble_eq_true rfl⟩ (by omega) (by omega) hst (fun r H locs hL hp => ?_)
    obtain ⟨bb, hbb, rfl, hE1⟩ := hp
    have ob := ob.ext hE1
    have hst := hst.ext hE1
    have hof := hof.ext hE1
    have hbg := hbg.ext hE1
    have hsd := hsd.ext hE1
    have hE := hE.trans hE1
    have hqbb : BgQ g x (actL ro n) bb H := ⟨_, hbb⟩
    have hla : (actL ro n).length ≤ 40 := act_len hn
    have hofa : OfL g ro x (actL ro n) H := hof.sub (fun i hi => act_in hi)
    refine Ct.callV (ct_X2_told l g ro x a (actL ro n) bb hw hla) X hL hl vb_X2_told q553 (hst.recv hKV) rfl rfl (Nat.le_of_ble_eq_true rfl) dX2_share_21 ⟨Nat.le_of_ble_eq_true rfl, Nat.le_of_ble_eq_true rfl⟩ (by omega) (by omega) ⟨hst.sd, hqbb, hofa⟩ (fun r H locs hL hp => ?_)
    obtain ⟨tb, htb, rfl, hE1⟩ := hp
    have ob := ob.ext hE1
    have hst := hst.ext hE1
    have hof := hof.ext hE1
    have hbg := hbg.ext hE1
    have hsd := hsd.ext hE1
    have hE := hE.trans hE1
    have hqtb : BgQ g x (tolL ro (nI 15) (actL ro n)) tb H := ⟨_, htb⟩
    refine Cp.callV (v := .int (nI ((tolL ro (nI 15) (actL ro n)).length))) (ct_X3_size l g _ (XL x (tolL ro (nI 15) (actL ro n))) ((tolL ro (nI 15) (actL ro n)).length) tb ) X hL hl vb_X3_size q564 (htb.recv hKV) rfl rfl (Nat.le_of_ble_eq_true rfl) dX2_share_24 ⟨Nat.le_of_ble_eq_true rfl, Nat.le_of_ble_eq_true rfl⟩ (by omega) (by omega) htb (fun locs hL => ?_)
    refine lv_i2d hx hb dX2_share_27 ?_
    refine lv_iload_n hx hb dX2_share_28 rfl (lv_at hl 0 rfl) ?_
    refine lv_i2d hx hb dX2_share_29 ?_
    have hlt : (tolL ro (nI 15) (actL ro n)).length ≤ 40 := Nat.le_trans (List.length_filter_le _ _) hla
    refine lv_ddiv hx hb dX2_share_30 (ddiv_ok (tolL ro (nI 15) (actL ro n)).length (by omega) (actL ro n).length (by omega) (by omega)) ?_
    exact r_dret X hL dX2_share_31 (by omega) (by omega) ⟨by rw [if_neg (by omega)], hE⟩
  ·
    refine lv_dconst0 hx hb dX2_share_12 ?_
    refine lv_goto (tgt := 31) hx hb dX2_share_13 (by decide) ?_
    exact r_dret X hL dX2_share_31 (by omega) (by omega) ⟨by rw [if_pos (by omega)], hE⟩
theorem vb_X2_share : VB yX2_share cX2_share 2 (some .double) 0 := ⟨q1136, q1137, q100, q1138, ⟨by decide, by decide, by decide +kernel⟩⟩

set_option maxRecDepth 100000 in
set_option maxHeartbeats 4000000 in
theorem ct_X2_hasRoom (l : Launch) (g : GT) (ro : Nat → Int32) (n : Nat) (x : Nat → Nat) (a : Nat) (hn : n ≤ 40) : Ct l g yX2_hasRoom cX2_hasRoom 1 (some .boolean) 3 0 0 [.ref a] (fun H => StQ g ro n x a H) (fun r H H1 => r = some (.int (bI (decide (n < 40)))) ∧ H1 = H) := by
  refine Ct.of (by decide) (Nat.le_of_ble_eq_true rfl) ?_
  intro p e s m args below meth c X hP ls hl
  have hx := X.1
  have hb := X.2.1
  have hKV := X.2.2.2.2.2.2.2.1.1
  have hL : ∀ q ∈ ([] : List Loc), gLo g ≤ q.base := fun _ h => by cases h
  have hst := hP
  have hst9 := hst
  obtain ⟨sb, sd, PB, PS, ob, hbg, hsd, hof, hinj⟩ := hst9
  have hl : lv_has ls 1 [(0, .ref a)] := hl
  have hrl : (List.range n).length ≤ 40 := by rw [rng_len]; exact hn
  refine lv_aload_n hx hb dX2_hasRoom_0 rfl (lv_at hl 0 rfl) ?_
  refine r_get (C := RX2) (T := TX2) (N := 4) (ci := 2) X in_X2 rfl 0 (Nat.le_of_ble_eq_true rfl) q210 (fun _ h => h) ob rfl dX2_hasRoom_1 ?_
  refine Cp.callV (v := .int (nI ((List.range n).length))) (ct_X3_size l g PB (XL x (List.range n)) ((List.range n).length) sb ) X hL hl vb_X3_size q564 (hbg.recv hKV) rfl rfl (Nat.le_of_ble_eq_true rfl) dX2_hasRoom_4 ⟨Nat.le_of_ble_eq_true rfl, Nat.le_of_ble_eq_true rfl⟩ (by omega) (by omega) hbg (fun locs hL => ?_)
  rw [rng_len]
  refine lv_bipush (v := nI 40) hx hb dX2_hasRoom_7 (by decide) ?_
  refine n_icmp_ge (tgt := 16) X dX2_hasRoom_9 (by decide) (by omega) (by omega) (fun c_9 => ?_) (fun c_9 => ?_)
  ·
    refine lv_iconst (v := nI 0) hx hb dX2_hasRoom_16 (by decide) ?_
    exact r_iret X hL rfl rfl dX2_hasRoom_17 (by omega) (by omega) ⟨v_f (decide_eq_false (by omega)), rfl⟩
  ·
    refine lv_iconst (v := nI 1) hx hb dX2_hasRoom_12 (by decide) ?_
    refine lv_goto (tgt := 17) hx hb dX2_hasRoom_13 (by decide) ?_
    exact r_iret X hL rfl rfl dX2_hasRoom_17 (by omega) (by omega) ⟨v_t (decide_eq_true (by omega)), rfl⟩
theorem vb_X2_hasRoom : VB yX2_hasRoom cX2_hasRoom 1 (some .boolean) 0 := ⟨q1338, q1339, q100, q1340, ⟨by decide, by decide, by decide +kernel⟩⟩

set_option maxRecDepth 100000 in
set_option maxHeartbeats 4000000 in
theorem ct_X2_isOffer (l : Launch) (g : GT) (ro : Nat → Int32) (n : Nat) (x : Nat → Nat) (a : Nat) (v : Int32) (hn : n ≤ 40) : Ct l g yX2_isOffer cX2_isOffer 2 (some .boolean) 3 0 0 [.ref a, .int v] (fun H => StQ g ro n x a H) (fun r H H1 => r = some (.int (bI (!noB n v))) ∧ H1 = H) := by
  refine Ct.of (by decide) (Nat.le_of_ble_eq_true rfl) ?_
  intro p e s m args below meth c X hP ls hl
  have hx := X.1
  have hb := X.2.1
  have hKV := X.2.2.2.2.2.2.2.1.1
  have hL : ∀ q ∈ ([] : List Loc), gLo g ≤ q.base := fun _ h => by cases h
  have hst := hP
  have hst9 := hst
  obtain ⟨sb, sd, PB, PS, ob, hbg, hsd, hof, hinj⟩ := hst9
  have hl : lv_has ls 2 [(0, .ref a), (1, .int v)] := hl
  have hrl : (List.range n).length ≤ 40 := by rw [rng_len]; exact hn
  refine lv_iload_n hx hb dX2_isOffer_0 rfl (lv_at hl 1 rfl) ?_
  refine lv_iconst (v := nI 0) hx hb dX2_isOffer_1 (by decide) ?_
  refine lv_aload_n hx hb dX2_isOffer_2 rfl (lv_at hl 0 rfl) ?_
  refine r_get (C := RX2) (T := TX2) (N := 4) (ci := 2) X in_X2 rfl 0 (Nat.le_of_ble_eq_true rfl) q210 (fun _ h => h) ob rfl dX2_isOffer_3 ?_
  refine Cp.callV (v := .int (nI ((List.range n).length))) (ct_X3_size l g PB (XL x (List.range n)) ((List.range n).length) sb ) X hL hl vb_X3_size q564 (hbg.recv hKV) rfl rfl (Nat.le_of_ble_eq_true rfl) dX2_isOffer_6 ⟨Nat.le_of_ble_eq_true rfl, Nat.le_of_ble_eq_true rfl⟩ (by omega) (by omega) hbg (fun locs hL => ?_)
  rw [rng_len]
  refine lv_iconst (v := nI 1) hx hb dX2_isOffer_9 (by decide) ?_
  refine lv_isub hx hb dX2_isOffer_10 ?_
  refine Cp.callSN (v := .int (bI (inB v (nI 0) ((nI n) - (nI 1))))) (ct_X1_inRange l g v (nI 0) ((nI n) - (nI 1)) ) X hL hl sb_X1_inRange q1379 rfl rfl (Nat.le_of_ble_eq_true rfl) dX2_isOffer_11 ⟨Nat.le_of_ble_eq_true rfl, Nat.le_of_ble_eq_true rfl⟩ (by omega) (by omega) trivial (fun locs hL => ?_)
  exact r_iret X hL rfl (narrow_bI _) dX2_isOffer_14 (by omega) (by omega) ⟨v_b (by unfold noB; rw [Bool.not_not]), rfl⟩
theorem vb_X2_isOffer : VB yX2_isOffer cX2_isOffer 2 (some .boolean) 1 := ⟨q1376, q1377, q100, q1378, ⟨by decide, by decide, by decide +kernel⟩⟩
