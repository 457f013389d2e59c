/-! the state: its lambdas run; its lists -/
def bsN (ro : Nat → Int32) (n : Nat) (f : Nat → Int32) : Nat := if couB (mle ro) (mgr ro) f then ((List.range n).filter (fun i => couB (mle ro) (mgr ro) (mv ro i) && beyB (mw ro) (mv ro i) f (swB (mw ro) (nI 15)))).length else 0
def bnN (ro : Nat → Int32) (n : Nat) (f : Nat → Int32) : Nat := if couB (mle ro) (mgr ro) f then ((List.range n).filter (fun i => couB (mle ro) (mgr ro) (mv ro i) && beyB (mw ro) f (mv ro i) (swB (mw ro) (nI 15)))).length else 0

theorem ru_0 {l : Launch} {g : GT} {la : Nat} {ro : Nat → Int32} {a : Nat} {f : Nat → Int32} {q : Nat} {H : Heap} (hlo : Lo g la 0 [.ref a] H) (hs : SdQ g ro a H) (hq : OfQ g f q H) : LamRun l g xCh la [.ref q] 10 0 0 H (PoB (couB (mle ro) (mgr ro) f)) := by
  obtain ⟨fs0, hob0⟩ := hs.ob
  obtain ⟨fq, hoq⟩ := hq.ob
  exact (lmr_P1V (fun U A hK hw => ⟨(lm0 hK hw).1.1, (lm0 hK hw).2⟩) (fun U A hK hw => LmC.of hK lm0q (Or.inl rfl) rfl rfl (by decide +kernel) (lm0 hK hw).1.1) (fun U A hK hw => (lm0 hK hw).1.1) lm0d0 lm0d1 lm0d4 lm0d5 lm0d8 lm0d11 (ct_X2_lambda_active_2 l g ro a f q) vb_X2_lambda_active_2 (by decide) hlo hob0 rfl hoq ⟨hs, hq⟩).mono (by decide) (by decide) (by decide)

theorem ru_1 {l : Launch} {g : GT} {la : Nat} {ro : Nat → Int32} {a : Nat} {x : Nat → Nat} {L : List Nat} {b : Nat} {f : Nat → Int32} {q : Nat} {H : Heap} (hlo : Lo g la 1 [.ref a, .ref b] H) (hw : WO (mw ro)) (hLn : L.length ≤ 40) (hs : SdQ g ro a H) (hq : OfQ g f q H) (hb : BgQ g x L b H) (ho : OfL g ro x L H) : LamRun l g xCh la [.ref q] 10 0 0 H (PoB (!btV ro (nI 15) L f)) := by
  obtain ⟨fs0, hob0⟩ := hs.ob
  obtain ⟨fq, hoq⟩ := hq.ob
  exact (lmr_P2V (fun U A hK hw => ⟨(lm1 hK hw).1.1, (lm1 hK hw).2⟩) (fun U A hK hw => LmC.of hK lm1q (Or.inl rfl) rfl rfl (by decide +kernel) (lm1 hK hw).1.1) (fun U A hK hw => (lm1 hK hw).1.1) lm1d0 lm1d1 lm1d4 lm1d5 lm1d8 lm1d9 lm1d12 lm1d15 (ct_X2_lambda_told_3 l g ro a x L b f q hw hLn) vb_X2_lambda_told_3 (by decide) hlo hob0 rfl hoq ⟨hs, hq, hb, ho⟩).mono (by decide) (by decide) (by decide)

theorem ru_3 {l : Launch} {g : GT} {la : Nat} {q1 q2 : Nat} {f : Nat → Int32} {H : Heap} (hlo : Lo g la 3 [.ref q1] H) (hq : OfQ g f q2 H) : LamRun l g xCh la [.ref q2] 10 0 0 H (PoB (decide (q2 = q1))) := by
  obtain ⟨fq, hoq⟩ := hq.ob
  exact (lmr_P1S (fun U A hK hw => ⟨(lm3 hK hw).1.1, (lm3 hK hw).2⟩) (fun U A hK hw => LmC.of hK lm3q (Or.inl rfl) rfl rfl (by decide +kernel) (lm3 hK hw).1.1) (fun U A hK hw => (lm3 hK hw).1.1) lm3d0 lm3d1 lm3d4 lm3d5 lm3d8 lm3d11 (ct_X2_lambda_prunes_0 l g q1 q2) sb_X2_lambda_prunes_0 (by decide) hlo hoq trivial).mono (by decide) (by decide) (by decide)

theorem ru_6 {l : Launch} {g : GT} {la : Nat} {q1 q2 : Nat} {f : Nat → Int32} {H : Heap} (hlo : Lo g la 6 [.ref q1] H) (hq : OfQ g f q2 H) : LamRun l g xCh la [.ref q2] 10 0 0 H (PoB (decide (q2 = q1))) := by
  obtain ⟨fq, hoq⟩ := hq.ob
  exact (lmr_P1S (fun U A hK hw => ⟨(lm6 hK hw).1.1, (lm6 hK hw).2⟩) (fun U A hK hw => LmC.of hK lm6q (Or.inl rfl) rfl rfl (by decide +kernel) (lm6 hK hw).1.1) (fun U A hK hw => (lm6 hK hw).1.1) lm6d0 lm6d1 lm6d4 lm6d5 lm6d8 lm6d11 (ct_X2_lambda_peeled_8 l g q1 q2) sb_X2_lambda_peeled_8 (by decide) hlo hoq trivial).mono (by decide) (by decide) (by decide)

theorem ru_10 {l : Launch} {g : GT} {la : Nat} {q1 q2 : Nat} {f : Nat → Int32} {H : Heap} (hlo : Lo g la 10 [.ref q1] H) (hq : OfQ g f q2 H) : LamRun l g xCh la [.ref q2] 10 0 0 H (PoB (decide (q2 = q1))) := by
  obtain ⟨fq, hoq⟩ := hq.ob
  exact (lmr_P1S (fun U A hK hw => ⟨(lm10 hK hw).1.1, (lm10 hK hw).2⟩) (fun U A hK hw => LmC.of hK lm10q (Or.inl rfl) rfl rfl (by decide +kernel) (lm10 hK hw).1.1) (fun U A hK hw => (lm10 hK hw).1.1) lm10d0 lm10d1 lm10d4 lm10d5 lm10d8 lm10d11 (ct_X1_lambda_isInWindow_0 l g q1 q2) sb_X1_lambda_isInWindow_0 (by decide) hlo hoq trivial).mono (by decide) (by decide) (by decide)

theorem ru_16 {l : Launch} {g : GT} {la : Nat} {q1 q2 : Nat} {f : Nat → Int32} {H : Heap} (hlo : Lo g la 16 [.ref q1] H) (hq : OfQ g f q2 H) : LamRun l g xCh la [.ref q2] 10 0 0 H (PoB (!decide (q2 = q1))) := by
  obtain ⟨fq, hoq⟩ := hq.ob
  exact (lmr_P1S (fun U A hK hw => ⟨(lm16 hK hw).1.1, (lm16 hK hw).2⟩) (fun U A hK hw => LmC.of hK lm16q (Or.inl rfl) rfl rfl (by decide +kernel) (lm16 hK hw).1.1) (fun U A hK hw => (lm16 hK hw).1.1) lm16d0 lm16d1 lm16d4 lm16d5 lm16d8 lm16d11 (ct_X2_lambda_isToldWith_14 l g q1 q2) sb_X2_lambda_isToldWith_14 (by decide) hlo hoq trivial).mono (by decide) (by decide) (by decide)

theorem ru_8 {l : Launch} {g : GT} {la : Nat} {ro : Nat → Int32} {a : Nat} {f1 : Nat → Int32} {q1 : Nat} {f2 : Nat → Int32} {q2 : Nat} {H : Heap} (hlo : Lo g la 8 [.ref a, .ref q1] H) (hw : WO (mw ro)) (hs : SdQ g ro a H) (hq1 : OfQ g f1 q1 H) (hq2 : OfQ g f2 q2 H) : LamRun l g xCh la [.ref q2] 10 0 0 H (PoB (beyB (mw ro) f1 f2 (swB (mw ro) (nI 15)))) := by
  obtain ⟨fs0, hob0⟩ := hs.ob
  obtain ⟨fq2, hoq2⟩ := hq2.ob
  exact (lmr_P2V (fun U A hK hw => ⟨(lm8 hK hw).1.1, (lm8 hK hw).2⟩) (fun U A hK hw => LmC.of hK lm8q (Or.inl rfl) rfl rfl (by decide +kernel) (lm8 hK hw).1.1) (fun U A hK hw => (lm8 hK hw).1.1) lm8d0 lm8d1 lm8d4 lm8d5 lm8d8 lm8d9 lm8d12 lm8d15 (ct_X2_lambda_window_6 l g ro a f1 q1 f2 q2 hw) vb_X2_lambda_window_6 (by decide) hlo hob0 rfl hoq2 ⟨hs, hq1, hq2⟩).mono (by decide) (by decide) (by decide)

theorem ru_15 {l : Launch} {g : GT} {la : Nat} {ro : Nat → Int32} {a : Nat} {f1 : Nat → Int32} {q1 : Nat} {f2 : Nat → Int32} {q2 : Nat} {H : Heap} (hlo : Lo g la 15 [.ref a, .ref q1] H) (hw : WO (mw ro)) (hs : SdQ g ro a H) (hq1 : OfQ g f1 q1 H) (hq2 : OfQ g f2 q2 H) : LamRun l g xCh la [.ref q2] 10 0 0 H (PoB (beyB (mw ro) f1 f2 (swB (mw ro) (nI 15)))) := by
  obtain ⟨fs0, hob0⟩ := hs.ob
  obtain ⟨fq2, hoq2⟩ := hq2.ob
  exact (lmr_P2V (fun U A hK hw => ⟨(lm15 hK hw).1.1, (lm15 hK hw).2⟩) (fun U A hK hw => LmC.of hK lm15q (Or.inl rfl) rfl rfl (by decide +kernel) (lm15 hK hw).1.1) (fun U A hK hw => (lm15 hK hw).1.1) lm15d0 lm15d1 lm15d4 lm15d5 lm15d8 lm15d9 lm15d12 lm15d15 (ct_X2_lambda_wouldFall_13 l g ro a f1 q1 f2 q2 hw) vb_X2_lambda_wouldFall_13 (by decide) hlo hob0 rfl hoq2 ⟨hs, hq1, hq2⟩).mono (by decide) (by decide) (by decide)

theorem ru_7 {l : Launch} {g : GT} {la : Nat} {ro : Nat → Int32} {a : Nat} {f1 : Nat → Int32} {q1 : Nat} {f2 : Nat → Int32} {q2 : Nat} {H : Heap} (hlo : Lo g la 7 [.ref a, .ref q1] H) (hw : WO (mw ro)) (hs : SdQ g ro a H) (hq1 : OfQ g f1 q1 H) (hq2 : OfQ g f2 q2 H) : LamRun l g xCh la [.ref q2] 10 0 0 H (PoB (couB (mle ro) (mgr ro) f2 && beyB (mw ro) f1 f2 (swB (mw ro) (nI 15)))) := by
  obtain ⟨fs0, hob0⟩ := hs.ob
  obtain ⟨fq2, hoq2⟩ := hq2.ob
  exact (lmr_P2V (fun U A hK hw => ⟨(lm7 hK hw).1.1, (lm7 hK hw).2⟩) (fun U A hK hw => LmC.of hK lm7q (Or.inl rfl) rfl rfl (by decide +kernel) (lm7 hK hw).1.1) (fun U A hK hw => (lm7 hK hw).1.1) lm7d0 lm7d1 lm7d4 lm7d5 lm7d8 lm7d9 lm7d12 lm7d15 (ct_X2_lambda_beaten_5 l g ro a f1 q1 f2 q2 hw) vb_X2_lambda_beaten_5 (by decide) hlo hob0 rfl hoq2 ⟨hs, hq1, hq2⟩).mono (by decide) (by decide) (by decide)

theorem ru_9 {l : Launch} {g : GT} {la : Nat} {ro : Nat → Int32} {a : Nat} {f1 : Nat → Int32} {q1 : Nat} {f2 : Nat → Int32} {q2 : Nat} {H : Heap} (hlo : Lo g la 9 [.ref a, .ref q1] H) (hw : WO (mw ro)) (hs : SdQ g ro a H) (hq1 : OfQ g f1 q1 H) (hq2 : OfQ g f2 q2 H) : LamRun l g xCh la [.ref q2] 10 0 0 H (PoB (couB (mle ro) (mgr ro) f2 && beyB (mw ro) f2 f1 (swB (mw ro) (nI 15)))) := by
  obtain ⟨fs0, hob0⟩ := hs.ob
  obtain ⟨fq2, hoq2⟩ := hq2.ob
  exact (lmr_P2V (fun U A hK hw => ⟨(lm9 hK hw).1.1, (lm9 hK hw).2⟩) (fun U A hK hw => LmC.of hK lm9q (Or.inl rfl) rfl rfl (by decide +kernel) (lm9 hK hw).1.1) (fun U A hK hw => (lm9 hK hw).1.1) lm9d0 lm9d1 lm9d4 lm9d5 lm9d8 lm9d9 lm9d12 lm9d15 (ct_X2_lambda_beaters_4 l g ro a f1 q1 f2 q2 hw) vb_X2_lambda_beaters_4 (by decide) hlo hob0 rfl hoq2 ⟨hs, hq1, hq2⟩).mono (by decide) (by decide) (by decide)

theorem ru_4 {l : Launch} {g : GT} {la : Nat} {ro : Nat → Int32} {a : Nat} {f1 : Nat → Int32} {q1 : Nat} {f2 : Nat → Int32} {q2 : Nat} {H : Heap} (hlo : Lo g la 4 [.ref a] H) (hw : WO (mw ro)) (hs : SdQ g ro a H) (hq1 : OfQ g f1 q1 H) (hq2 : OfQ g f2 q2 H) : LamRun l g xOr la [.ref q1, .ref q2] 10 0 0 H (PoB (decide (smI (mw ro) f2 4 < smI (mw ro) f1 4))) := by
  obtain ⟨fs0, hob0⟩ := hs.ob
  obtain ⟨fq1, hoq1⟩ := hq1.ob
  obtain ⟨fq2, hoq2⟩ := hq2.ob
  exact (lmr_O1V (fun U A hK hw => ⟨(lm4 hK hw).1.1, (lm4 hK hw).2⟩) (fun U A hK hw => LmC.of hK lm4q (Or.inr rfl) rfl rfl (by decide +kernel) (lm4 hK hw).1.1) (fun U A hK hw => (lm4 hK hw).1.1) lm4d0 lm4d1 lm4d4 lm4d5 lm4d8 lm4d9 lm4d12 lm4d15 (ct_X2_lambda_bySums_7 l g ro a f1 q1 f2 q2 hw) vb_X2_lambda_bySums_7 (by decide) hlo hob0 rfl hoq1 hoq2 ⟨hs, hq1, hq2⟩).mono (by decide) (by decide) (by decide)

theorem ru_14 {l : Launch} {g : GT} {la : Nat} {ro : Nat → Int32} {a : Nat} {f1 : Nat → Int32} {q1 : Nat} {f2 : Nat → Int32} {q2 : Nat} {H : Heap} (hlo : Lo g la 14 [.ref a] H) (hw : WO (mw ro)) (hs : SdQ g ro a H) (hq1 : OfQ g f1 q1 H) (hq2 : OfQ g f2 q2 H) : LamRun l g xOr la [.ref q1, .ref q2] 10 0 0 H (PoB (decide (scoN (mw ro) (mwe ro) f2 4 < scoN (mw ro) (mwe ro) f1 4))) := by
  obtain ⟨fs0, hob0⟩ := hs.ob
  obtain ⟨fq1, hoq1⟩ := hq1.ob
  obtain ⟨fq2, hoq2⟩ := hq2.ob
  exact (lmr_O1V (fun U A hK hw => ⟨(lm14 hK hw).1.1, (lm14 hK hw).2⟩) (fun U A hK hw => LmC.of hK lm14q (Or.inr rfl) rfl rfl (by decide +kernel) (lm14 hK hw).1.1) (fun U A hK hw => (lm14 hK hw).1.1) lm14d0 lm14d1 lm14d4 lm14d5 lm14d8 lm14d9 lm14d12 lm14d15 (ct_X2_lambda_scored_15 l g ro a f1 q1 f2 q2 hw) vb_X2_lambda_scored_15 (by decide) hlo hob0 rfl hoq1 hoq2 ⟨hs, hq1, hq2⟩).mono (by decide) (by decide) (by decide)

theorem ru_11 {l : Launch} {g : GT} {la : Nat} {ro : Nat → Int32} {a : Nat} {x : Nat → Nat} {L : List Nat} {b : Nat} {f : Nat → Int32} {q : Nat} {t : Int32} {H : Heap} (hlo : Lo g la 11 [.ref a, .ref b, .int t] H) (hw : WO (mw ro)) (hLn : L.length ≤ 40) (hs : SdQ g ro a H) (hq : OfQ g f q H) (hb : BgQ g x L b H) (ho : OfL g ro x L H) : LamRun l g xCh la [.ref q] 10 0 0 H (PoB (!btV ro t L f)) := by
  obtain ⟨fs0, hob0⟩ := hs.ob
  obtain ⟨fq, hoq⟩ := hq.ob
  exact (lmr_P3V (fun U A hK hw => ⟨(lm11 hK hw).1.1, (lm11 hK hw).2⟩) (fun U A hK hw => LmC.of hK lm11q (Or.inl rfl) rfl rfl (by decide +kernel) (lm11 hK hw).1.1) (fun U A hK hw => (lm11 hK hw).1.1) lm11d0 lm11d1 lm11d4 lm11d5 lm11d8 lm11d9 lm11d12 lm11d13 lm11d16 lm11d19 (ct_X2_lambda_toldBy_10 l g ro a x L b t f q hw hLn) vb_X2_lambda_toldBy_10 (by decide) hlo hob0 rfl hoq ⟨hs, hq, hb, ho⟩).mono (by decide) (by decide) (by decide)

theorem ru_13 {l : Launch} {g : GT} {la : Nat} {ro : Nat → Int32} {a : Nat} {f1 : Nat → Int32} {q1 : Nat} {f2 : Nat → Int32} {q2 : Nat} {t : Int32} {H : Heap} (hlo : Lo g la 13 [.ref a, .ref q1, .int t] H) (hw : WO (mw ro)) (hs : SdQ g ro a H) (hq1 : OfQ g f1 q1 H) (hq2 : OfQ g f2 q2 H) : LamRun l g xCh la [.ref q2] 10 0 0 H (PoB (decide (t ≤ nI (asN (mw ro) f2 f1 (nI 15))) && decide (0 < betN (mw ro) f2 f1 (swB (mw ro) (nI 15))))) := by
  obtain ⟨fs0, hob0⟩ := hs.ob
  obtain ⟨fq2, hoq2⟩ := hq2.ob
  exact (lmr_P3V (fun U A hK hw => ⟨(lm13 hK hw).1.1, (lm13 hK hw).2⟩) (fun U A hK hw => LmC.of hK lm13q (Or.inl rfl) rfl rfl (by decide +kernel) (lm13 hK hw).1.1) (fun U A hK hw => (lm13 hK hw).1.1) lm13d0 lm13d1 lm13d4 lm13d5 lm13d8 lm13d9 lm13d12 lm13d13 lm13d16 lm13d19 (ct_X2_lambda_weakly_11 l g ro a f1 q1 t f2 q2 hw) vb_X2_lambda_weakly_11 (by decide) hlo hob0 rfl hoq2 ⟨hs, hq1, hq2⟩).mono (by decide) (by decide) (by decide)

set_option maxRecDepth 100000 in
set_option maxHeartbeats 4000000 in
theorem ct_X2_active (l : Launch) (g : GT) (ro : Nat → Int32) (n : Nat) (x : Nat → Nat) (a : Nat) (hn : n ≤ 40) : Ct l g yX2_active cX2_active 1 (some (.object "OfferSky$Bag")) 13 9 141 [.ref a] (fun H => StQ g ro n x a H) (fun r H H1 => ∃ bb, BagR g (fun q => H.size ≤ q) (XL x (actL ro n)) (actL ro n).length bb H1 ∧ r = some (.ref bb) ∧ Ext H H1) := by
  refine Ct.ofN (by decide) (Nat.le_of_ble_eq_true rfl) ?_
  intro p e s m args below meth c X hnm hP ls hl
  have hx := X.1
  have hb := X.2.1
  have hKV := X.2.2.2.2.2.2.2.1.1
  have hL : ∀ q ∈ ([] : List Loc), gLo g ≤ q.base := fun _ h => by cases h
  have hst := hP
  have hst9 := hst
  obtain ⟨sb, sd, PB, PS, ob, hbg, hsd, hof, hinj⟩ := hst9
  have hl : lv_has ls 1 [(0, .ref a)] := hl
  have hrl : (List.range n).length ≤ 40 := by rw [rng_len]; exact hn
  refine lv_aload_n hx hb dX2_active_0 rfl (lv_at hl 0 rfl) ?_
  refine r_get (C := RX2) (T := TX2) (N := 4) (ci := 2) X in_X2 rfl 0 (Nat.le_of_ble_eq_true rfl) q210 (fun _ h => h) ob rfl dX2_active_1 ?_
  refine lv_aload_n hx hb dX2_active_4 rfl (lv_at hl 0 rfl) ?_
  obtain ⟨b1, hb1⟩ : ∃ b, s.heap.size = b := ⟨_, rfl⟩
  have sz_b1 : s.heap.size ≤ b1 := by rw [← hb1]; exact Nat.le_refl _
  have lo_b1 : gLo g ≤ b1 := Nat.le_trans X.2.2.2.2.2.2.2.1.2.1 sz_b1
  have ne_a_b1 : a ≠ b1 := Nat.ne_of_lt (by rw [← hb1]; exact ob.lt)
  refine r_indy (k := 0) (σ := lm0s) X hnm hl lm0q [.ref a] [.object "OfferSky$State"] (lm0 hKV X.2.2.2.2.1).1.2 rfl rfl rfl (by intro i t v h1 h2; rcases i with _ | _ | _ | i <;> simp at h1 h2 <;> (try (subst h1; subst h2; rfl))) rfl (Nat.le_of_ble_eq_true rfl) (by show _ + 1 ≤ 9; omega) (by show _ + 1 ≤ 141; omega) dX2_active_5 (fun H ha_b1 hE_b1 hz_b1 => ?_)
  rw [hb1] at ha_b1 hz_b1 ⊢
  have ob := ob.ext hE_b1
  have hbg := hbg.ext hE_b1
  have hst := hst.ext hE_b1
  have hof := hof.ext hE_b1
  have hsd := hsd.ext hE_b1
  rw [show ([.ref a] : List Value).length = 1 from rfl]
  refine Ct.callV (ct_X3_those l g PB x (List.range n) sb b1 (cB ro) hrl) X hL hl vb_X3_those q545 (hbg.recv hKV) rfl rfl (Nat.le_of_ble_eq_true rfl) dX2_active_10 ⟨Nat.le_of_ble_eq_true rfl, Nat.le_of_ble_eq_true rfl⟩ (by omega) (by omega) ⟨hbg, hof.el, fun i hi H1 hE1 => ru_0 (ha_b1.ext hE1) (hst.sd.ext hE1) ((hof i hi).ext hE1)⟩ (fun r H locs hL hp => ?_)
  obtain ⟨bb, hbb, rfl, hE2⟩ := hp
  exact r_aret X hL rfl (Or.inl ⟨_, rfl⟩) (Or.inr ⟨_, rfl⟩) dX2_active_13 (by omega) (by omega) ⟨bb, hbb.to (fun _ _ => rfl) (fun q hq => Nat.le_trans hE_b1.1 hq), rfl, hE_b1.trans hE2⟩
theorem vb_X2_active : VB yX2_active cX2_active 1 (some (.object "OfferSky$Bag")) 0 := ⟨q528, q529, q100, q530, ⟨by decide, by decide, by decide +kernel⟩⟩

set_option maxRecDepth 100000 in
set_option maxHeartbeats 4000000 in
theorem ct_X2_told (l : Launch) (g : GT) (ro : Nat → Int32) (x : Nat → Nat) (a : Nat) (L : List Nat) (b : Nat) (hw : WO (mw ro)) (hLn : L.length ≤ 40) : Ct l g yX2_told cX2_told 2 (some (.object "OfferSky$Bag")) 13 9 142 [.ref a, .ref b] (fun H => SdQ g ro a H ∧ BgQ g x L b H ∧ OfL g ro x L H) (fun r H H1 => ∃ bb, BagR g (fun q => H.size ≤ q) (XL x (tolL ro (nI 15) L)) (tolL ro (nI 15) L).length bb H1 ∧ r = some (.ref bb) ∧ Ext H H1) := by
  refine Ct.ofN (by decide) (Nat.le_of_ble_eq_true rfl) ?_
  intro p e s m args below meth c X hnm hP ls hl
  have hx := X.1
  have hb := X.2.1
  have hKV := X.2.2.2.2.2.2.2.1.1
  have hL : ∀ q ∈ ([] : List Loc), gLo g ≤ q.base := fun _ h => by cases h
  obtain ⟨hs, ⟨PB, hbg⟩, hof⟩ := hP
  have hbq : BgQ g x L b s.heap := ⟨PB, hbg⟩
  have hl : lv_has ls 2 [(0, .ref a), (1, .ref b)] := hl
  refine lv_aload_n hx hb dX2_told_0 rfl (lv_at hl 1 rfl) ?_
  refine lv_aload_n hx hb dX2_told_1 rfl (lv_at hl 0 rfl) ?_
  refine lv_aload_n hx hb dX2_told_2 rfl (lv_at hl 1 rfl) ?_
  obtain ⟨b1, hb1⟩ : ∃ b, s.heap.size = b := ⟨_, rfl⟩
  have sz_b1 : s.heap.size ≤ b1 := by rw [← hb1]; exact Nat.le_refl _
  have lo_b1 : gLo g ≤ b1 := Nat.le_trans X.2.2.2.2.2.2.2.1.2.1 sz_b1
  refine r_indy (k := 1) (σ := lm1s) X hnm hl lm1q [.ref a, .ref b] [.object "OfferSky$State", .object "OfferSky$Bag"] (lm1 hKV X.2.2.2.2.1).1.2 rfl rfl rfl (by intro i t v h1 h2; rcases i with _ | _ | _ | i <;> simp at h1 h2 <;> (try (subst h1; subst h2; rfl))) rfl (Nat.le_of_ble_eq_true rfl) (by show _ + 1 ≤ 9; omega) (by show _ + 2 ≤ 142; omega) dX2_told_3 (fun H ha_b1 hE_b1 hz_b1 => ?_)
  rw [hb1] at ha_b1 hz_b1 ⊢
  have hs := hs.ext hE_b1
  have hbq := hbq.ext hE_b1
  have hof := hof.ext hE_b1
  have hbg := hbg.ext hE_b1
  rw [show ([.ref a, .ref b] : List Value).length = 2 from rfl]
  refine Ct.callV (ct_X3_those l g PB x L b b1 (fun i => !btV ro (nI 15) L (mv ro i)) hLn) X hL hl vb_X3_those q545 (hbg.recv hKV) rfl rfl (Nat.le_of_ble_eq_true rfl) dX2_told_8 ⟨Nat.le_of_ble_eq_true rfl, Nat.le_of_ble_eq_true rfl⟩ (by omega) (by omega) ⟨hbg, hof.el, fun i hi H1 hE1 => ru_1 (ha_b1.ext hE1) hw hLn (hs.ext hE1) ((hof i hi).ext hE1) (hbq.ext hE1) (hof.ext hE1)⟩ (fun r H locs hL hp => ?_)
  obtain ⟨bb, hbb, rfl, hE2⟩ := hp
  exact r_aret X hL rfl (Or.inl ⟨_, rfl⟩) (Or.inr ⟨_, rfl⟩) dX2_told_11 (by omega) (by omega) ⟨bb, hbb.to (fun _ _ => rfl) (fun q hq => Nat.le_trans hE_b1.1 hq), rfl, hE_b1.trans hE2⟩
theorem vb_X2_told : VB yX2_told cX2_told 2 (some (.object "OfferSky$Bag")) 1 := ⟨q554, q555, q100, q556, ⟨by decide, by decide, by decide +kernel⟩⟩

set_option maxRecDepth 100000 in
set_option maxHeartbeats 4000000 in
theorem ct_X2_get (l : Launch) (g : GT) (ro : Nat → Int32) (n : Nat) (x : Nat → Nat) (a : Nat) (i : Nat) (hn : n ≤ 40) (hi : i < n) : Ct l g yX2_get cX2_get 2 (some (.object "OfferSky$Offer")) 5 0 0 [.ref a, .int (nI i)] (fun H => StQ g ro n x a H) (fun r H H1 => r = some (.ref (x i)) ∧ H1 = H) := by
  refine Ct.of (by decide) (Nat.le_of_ble_eq_true rfl) ?_
  intro p e s m args below meth c X hP ls hl
  have hx := X.1
  have hb := X.2.1
  have hKV := X.2.2.2.2.2.2.2.1.1
  have hL : ∀ q ∈ ([] : List Loc), gLo g ≤ q.base := fun _ h => by cases h
  have hst := hP
  have hst9 := hst
  obtain ⟨sb, sd, PB, PS, ob, hbg, hsd, hof, hinj⟩ := hst9
  have hl : lv_has ls 2 [(0, .ref a), (1, .int (nI i))] := hl
  have hrl : (List.range n).length ≤ 40 := by rw [rng_len]; exact hn
  refine lv_aload_n hx hb dX2_get_0 rfl (lv_at hl 0 rfl) ?_
  refine r_get (C := RX2) (T := TX2) (N := 4) (ci := 2) X in_X2 rfl 0 (Nat.le_of_ble_eq_true rfl) q210 (fun _ h => h) ob rfl dX2_get_1 ?_
  refine lv_iload_n hx hb dX2_get_4 rfl (lv_at hl 1 rfl) ?_
  refine Cp.callV (v := .ref (x ((List.range n).getD i 0))) (ct_X3_get l g PB (XL x (List.range n)) ((List.range n).length) sb i (by rw [rng_len]; exact hi)) X hL hl vb_X3_get q568 (hbg.recv hKV) rfl rfl (Nat.le_of_ble_eq_true rfl) dX2_get_5 ⟨Nat.le_of_ble_eq_true rfl, Nat.le_of_ble_eq_true rfl⟩ (by omega) (by omega) hbg (fun locs hL => ?_)
  rw [rng_get hi]
  obtain ⟨fq, oq⟩ := (hof i (rng_mem hi)).ob
  refine r_cast (ci := 5) X rfl oq q572 dX2_get_8 ?_
  exact r_aret X hL rfl (Or.inl ⟨_, rfl⟩) (Or.inr ⟨_, rfl⟩) dX2_get_11 (by omega) (by omega) ⟨rfl, rfl⟩
theorem vb_X2_get : VB yX2_get cX2_get 2 (some (.object "OfferSky$Offer")) 1 := ⟨q1169, q1170, q100, q1171, ⟨by decide, by decide, by decide +kernel⟩⟩

set_option maxRecDepth 100000 in
set_option maxHeartbeats 4000000 in
theorem ct_X2_numberOf (l : Launch) (g : GT) (ro : Nat → Int32) (n : Nat) (x : Nat → Nat) (a : Nat) (k : Nat) (hn : n ≤ 40) (hk : k < n) : Ct l g yX2_numberOf cX2_numberOf 4 (some .int) 5 0 0 [.ref a, .ref (x k)] (fun H => StQ g ro n x a H) (fun r H H1 => r = some (.int (nI k)) ∧ H1 = H) := by
  refine Ct.of (by decide) (Nat.le_of_ble_eq_true rfl) ?_
  intro p e s m args below meth c X hP ls hl
  have hx := X.1
  have hb := X.2.1
  have hKV := X.2.2.2.2.2.2.2.1.1
  have hL : ∀ q ∈ ([] : List Loc), gLo g ≤ q.base := fun _ h => by cases h
  have hst := hP
  have hst9 := hst
  obtain ⟨sb, sd, PB, PS, ob, hbg, hsd, hof, hinj⟩ := hst9
  have hl : lv_has ls 4 [(0, .ref a), (1, .ref (x k))] := hl
  have hrl : (List.range n).length ≤ 40 := by rw [rng_len]; exact hn
  refine lv_iconst (v := (-1)) hx hb dX2_numberOf_0 (by decide) ?_
  refine lv_istore_n (lv' := [(2, .int _), (0, .ref _), (1, .ref _)]) hx hb dX2_numberOf_1 rfl hl (by decide) rfl (fun ls hl => ?_)
  refine lv_iconst (v := nI 0) hx hb dX2_numberOf_2 (by decide) ?_
  refine lv_istore_n (lv' := [(3, .int _), (2, .int _), (0, .ref _), (1, .ref _)]) hx hb dX2_numberOf_3 rfl hl (by decide) rfl (fun ls hl => ?_)
  have L4 : ∀ (fuel : Nat) (i : Nat), n - i < fuel → (i ≤ n) → ∀ (locs : List Loc), (∀ q ∈ locs, gLo g ≤ q.base) → ∀ (ls : Array Slot), lv_has ls 4 [(0, .ref a), (1, .ref (x k)), (2, .int (if k < i then nI k else (-1))), (3, .int (nI i))] → W p l e (rmL 5 0 0) s m args below meth c s.heap locs 0 0 (MQ below (Qcg (fun r H H1 => r = some (.int (nI k)) ∧ H1 = H)) args s 0 0 (fre g)) (F0 m 4 ls []) := by
    intro fuel
    induction fuel with
    | zero => intro i hfu; exact absurd hfu (Nat.not_lt_zero _)
    | succ fuel ih4 =>
      intro i hfu hi  locs hL ls hl
      refine lv_iload_n hx hb dX2_numberOf_4 rfl (lv_at hl 3 rfl) ?_
      refine lv_aload_n hx hb dX2_numberOf_5 rfl (lv_at hl 0 rfl) ?_
      refine r_get (C := RX2) (T := TX2) (N := 4) (ci := 2) X in_X2 rfl 0 (Nat.le_of_ble_eq_true rfl) q210 (fun _ h => h) ob rfl dX2_numberOf_6 ?_
      refine Cp.callV (v := .int (nI ((List.range n).length))) (ct_X3_size l g PB (XL x (List.range n)) ((List.range n).length) sb ) X hL hl vb_X3_size q564 (hbg.recv hKV) rfl rfl (Nat.le_of_ble_eq_true rfl) dX2_numberOf_9 ⟨Nat.le_of_ble_eq_true rfl, Nat.le_of_ble_eq_true rfl⟩ (by omega) (by omega) hbg (fun locs hL => ?_)
      rw [rng_len]
      refine n_icmp_ge (tgt := 39) X dX2_numberOf_12 (by decide) (by omega) (by omega) (fun c_12 => ?_) (fun c_12 => ?_)
      ·
        refine lv_iload_n hx hb dX2_numberOf_39 rfl (lv_at hl 2 rfl) ?_
        exact r_iret X hL rfl rfl dX2_numberOf_40 (by omega) (by omega) ⟨by rw [if_pos (by omega)], rfl⟩
      ·
        refine lv_aload_n hx hb dX2_numberOf_15 rfl (lv_at hl 0 rfl) ?_
        refine r_get (C := RX2) (T := TX2) (N := 4) (ci := 2) X in_X2 rfl 0 (Nat.le_of_ble_eq_true rfl) q210 (fun _ h => h) ob rfl dX2_numberOf_16 ?_
        refine lv_iload_n hx hb dX2_numberOf_19 rfl (lv_at hl 3 rfl) ?_
        refine Cp.callV (v := .ref (x ((List.range n).getD i 0))) (ct_X3_get l g PB (XL x (List.range n)) ((List.range n).length) sb i (by rw [rng_len]; omega)) X hL hl vb_X3_get q568 (hbg.recv hKV) rfl rfl (Nat.le_of_ble_eq_true rfl) dX2_numberOf_20 ⟨Nat.le_of_ble_eq_true rfl, Nat.le_of_ble_eq_true rfl⟩ (by omega) (by omega) hbg (fun locs hL => ?_)
        rw [rng_get (show i < n by omega)]
        refine lv_aload_n hx hb dX2_numberOf_23 rfl (lv_at hl 1 rfl) ?_
        refine lv_acmp_ne (rx := some (x i)) (ry := some (x k)) (tgt := 31) hx hb dX2_numberOf_24 (by decide) (fun c_24 => ?_) (fun c_24 => ?_)
        ·
          refine lv_iload_n hx hb dX2_numberOf_31 rfl (lv_at hl 2 rfl) ?_
          refine W.stk (w := (if k < i + 1 then nI k else (-1))) (by have e : i ≠ k := (fun e => c_24 (by rw [e])); have e2 : (k < i + 1) = (k < i) := propext (by omega); simp only [e2]) ?_
          refine lv_istore_n (lv' := [(2, .int _), (0, .ref _), (1, .ref _), (3, .int _)]) hx hb dX2_numberOf_32 rfl hl (by decide) rfl (fun ls hl => ?_)
          refine lv_iinc (v := nI (i + 1)) (lv' := [(3, .int _), (2, .int _), (0, .ref _), (1, .ref _)]) hx hb dX2_numberOf_33 hl (k := 3) rfl (nI_iinc _ 1 rfl) (by decide) rfl (fun ls hl => ?_)
          refine lv_goto (tgt := 4) hx hb dX2_numberOf_36 (by decide) ?_
          exact ih4 (i + 1) (by omega) (by omega) _ hL ls (lv_sub hl [2, 3, 1, 0] rfl)
        ·
          refine lv_iload_n hx hb dX2_numberOf_27 rfl (lv_at hl 3 rfl) ?_
          refine W.stk (w := (if k < i + 1 then nI k else (-1))) (by rw [hinj i k (by omega) hk (Option.some.inj (by first | exact c_24 | exact Classical.byContradiction c_24)), if_pos (by omega)]) ?_
          refine lv_goto (tgt := 32) hx hb dX2_numberOf_28 (by decide) ?_
          refine lv_istore_n (lv' := [(2, .int _), (0, .ref _), (1, .ref _), (3, .int _)]) hx hb dX2_numberOf_32 rfl hl (by decide) rfl (fun ls hl => ?_)
          refine lv_iinc (v := nI (i + 1)) (lv' := [(3, .int _), (2, .int _), (0, .ref _), (1, .ref _)]) hx hb dX2_numberOf_33 hl (k := 3) rfl (nI_iinc _ 1 rfl) (by decide) rfl (fun ls hl => ?_)
          refine lv_goto (tgt := 4) hx hb dX2_numberOf_36 (by decide) ?_
          exact ih4 (i + 1) (by omega) (by omega) _ hL ls (lv_sub hl [2, 3, 1, 0] rfl)
  exact L4 (n + 1) 0 (by omega) (by omega) _ hL ls (lv_sub hl [2, 3, 1, 0] rfl)
theorem vb_X2_numberOf : VB yX2_numberOf cX2_numberOf 4 (some .int) 1 := ⟨q1074, q1075, q100, q1076, ⟨by decide, by decide, by decide +kernel⟩⟩

set_option maxRecDepth 100000 in
set_option maxHeartbeats 4000000 in
theorem ct_X2_beaters (l : Launch) (g : GT) (ro : Nat → Int32) (n : Nat) (x : Nat → Nat) (a : Nat) (f : Nat → Int32) (q : Nat) (hn : n ≤ 40) (hw : WO (mw ro)) : Ct l g yX2_beaters cX2_beaters 2 (some .int) 13 1 2 [.ref a, .ref q] (fun H => StQ g ro n x a H ∧ OfQ g f q H) (fun r H H1 => r = some (.int (nI (bsN ro n f))) ∧ Ext H H1) := by
  refine Ct.ofN (by decide) (Nat.le_of_ble_eq_true rfl) ?_
  intro p e s m args below meth c X hnm hP ls hl
  have hx := X.1
  have hb := X.2.1
  have hKV := X.2.2.2.2.2.2.2.1.1
  have hL : ∀ q ∈ ([] : List Loc), gLo g ≤ q.base := fun _ h => by cases h
  obtain ⟨hst, hq⟩ := hP
  have hst9 := hst
  obtain ⟨sb, sd, PB, PS, ob, hbg, hsd, hof, hinj⟩ := hst9
  have hl : lv_has ls 2 [(0, .ref a), (1, .ref q)] := hl
  have hrl : (List.range n).length ≤ 40 := by rw [rng_len]; exact hn
  refine lv_aload_n hx hb dX2_beaters_0 rfl (lv_at hl 0 rfl) ?_
  refine r_get (C := RX2) (T := TX2) (N := 4) (ci := 2) X in_X2 rfl 1 (Nat.le_of_ble_eq_true rfl) q212 (fun _ h => h) ob rfl dX2_beaters_1 ?_
  refine lv_aload_n hx hb dX2_beaters_4 rfl (lv_at hl 1 rfl) ?_
  obtain ⟨I1, hq1⟩ := id hq
  refine Cp.callV (v := .int (bI (couB (mle ro) (mgr ro) f))) (ct_X4_counts l g PS ro sd I1 f q ) X hL hl vb_X4_counts q534 (hsd.recv hKV) rfl rfl (Nat.le_of_ble_eq_true rfl) dX2_beaters_5 ⟨Nat.le_of_ble_eq_true rfl, Nat.le_of_ble_eq_true rfl⟩ (by omega) (by omega) ⟨hsd, hq1⟩ (fun locs hL => ?_)
  refine b_ifne (tgt := 13) X dX2_beaters_8 (by decide) (fun c_8 => ?_) (fun c_8 => ?_)
  ·
    refine lv_aload_n hx hb dX2_beaters_13 rfl (lv_at hl 0 rfl) ?_
    refine r_get (C := RX2) (T := TX2) (N := 4) (ci := 2) X in_X2 rfl 0 (Nat.le_of_ble_eq_true rfl) q210 (fun _ h => h) ob rfl dX2_beaters_14 ?_
    refine lv_aload_n hx hb dX2_beaters_17 rfl (lv_at hl 0 rfl) ?_
    refine lv_aload_n hx hb dX2_beaters_18 rfl (lv_at hl 1 rfl) ?_
    obtain ⟨b1, hb1⟩ : ∃ b, s.heap.size = b := ⟨_, rfl⟩
    have sz_b1 : s.heap.size ≤ b1 := by rw [← hb1]; exact Nat.le_refl _
    have lo_b1 : gLo g ≤ b1 := Nat.le_trans X.2.2.2.2.2.2.2.1.2.1 sz_b1
    have ne_a_b1 : a ≠ b1 := Nat.ne_of_lt (by rw [← hb1]; exact ob.lt)
    refine r_indy (k := 9) (σ := lm9s) X hnm hl lm9q [.ref a, .ref q] [.object "OfferSky$State", .object "OfferSky$Offer"] (lm9 hKV X.2.2.2.2.1).1.2 rfl rfl rfl (by intro i t v h1 h2; rcases i with _ | _ | _ | i <;> simp at h1 h2 <;> (try (subst h1; subst h2; rfl))) rfl (Nat.le_of_ble_eq_true rfl) (by show _ + 1 ≤ 1; omega) (by show _ + 2 ≤ 2; omega) dX2_beaters_19 (fun H ha_b1 hE_b1 hz_b1 => ?_)
    rw [hb1] at ha_b1 hz_b1 ⊢
    have ob := ob.ext hE_b1
    have hbg := hbg.ext hE_b1
    have hst := hst.ext hE_b1
    have hof := hof.ext hE_b1
    have hsd := hsd.ext hE_b1
    have hq := hq.ext hE_b1
    rw [show ([.ref a, .ref q] : List Value).length = 2 from rfl]
    refine Ct.callV (ct_X3_counts l g PB x (List.range n) sb b1 (fun i => couB (mle ro) (mgr ro) (mv ro i) && beyB (mw ro) (mv ro i) f (swB (mw ro) (nI 15))) hrl) X hL hl vb_X3_counts q1126 (hbg.recv hKV) rfl rfl (Nat.le_of_ble_eq_true rfl) dX2_beaters_24 ⟨Nat.le_of_ble_eq_true rfl, Nat.le_of_ble_eq_true rfl⟩ (by omega) (by omega) ⟨hbg, hof.el, fun i hi H1 hE1 => ru_9 (ha_b1.ext hE1) hw (hst.sd.ext hE1) (hq.ext hE1) ((hof i hi).ext hE1)⟩ (fun r H locs hL hp => ?_)
    obtain ⟨rfl, hE2⟩ := hp
    exact r_iret X hL rfl rfl dX2_beaters_27 (by omega) (by omega) ⟨by unfold bsN; rw [c_8]; rfl, hE_b1.trans hE2⟩
  ·
    refine lv_iconst (v := nI 0) hx hb dX2_beaters_11 (by decide) ?_
    exact r_iret X hL rfl rfl dX2_beaters_12 (by omega) (by omega) ⟨by unfold bsN; rw [c_8]; rfl, Ext.rfl'⟩
theorem vb_X2_beaters : VB yX2_beaters cX2_beaters 2 (some .int) 1 := ⟨q1180, q1181, q100, q1182, ⟨by decide, by decide, by decide +kernel⟩⟩

set_option maxRecDepth 100000 in
set_option maxHeartbeats 4000000 in
theorem ct_X2_beaten (l : Launch) (g : GT) (ro : Nat → Int32) (n : Nat) (x : Nat → Nat) (a : Nat) (f : Nat → Int32) (q : Nat) (hn : n ≤ 40) (hw : WO (mw ro)) : Ct l g yX2_beaten cX2_beaten 2 (some .int) 13 1 2 [.ref a, .ref q] (fun H => StQ g ro n x a H ∧ OfQ g f q H) (fun r H H1 => r = some (.int (nI (bnN ro n f))) ∧ Ext H H1) := by
  refine Ct.ofN (by decide) (Nat.le_of_ble_eq_true rfl) ?_
  intro p e s m args below meth c X hnm hP ls hl
  have hx := X.1
  have hb := X.2.1
  have hKV := X.2.2.2.2.2.2.2.1.1
  have hL : ∀ q ∈ ([] : List Loc), gLo g ≤ q.base := fun _ h => by cases h
  obtain ⟨hst, hq⟩ := hP
  have hst9 := hst
  obtain ⟨sb, sd, PB, PS, ob, hbg, hsd, hof, hinj⟩ := hst9
  have hl : lv_has ls 2 [(0, .ref a), (1, .ref q)] := hl
  have hrl : (List.range n).length ≤ 40 := by rw [rng_len]; exact hn
  refine lv_aload_n hx hb dX2_beaten_0 rfl (lv_at hl 0 rfl) ?_
  refine r_get (C := RX2) (T := TX2) (N := 4) (ci := 2) X in_X2 rfl 1 (Nat.le_of_ble_eq_true rfl) q212 (fun _ h => h) ob rfl dX2_beaten_1 ?_
  refine lv_aload_n hx hb dX2_beaten_4 rfl (lv_at hl 1 rfl) ?_
  obtain ⟨I1, hq1⟩ := id hq
  refine Cp.callV (v := .int (bI (couB (mle ro) (mgr ro) f))) (ct_X4_counts l g PS ro sd I1 f q ) X hL hl vb_X4_counts q534 (hsd.recv hKV) rfl rfl (Nat.le_of_ble_eq_true rfl) dX2_beaten_5 ⟨Nat.le_of_ble_eq_true rfl, Nat.le_of_ble_eq_true rfl⟩ (by omega) (by omega) ⟨hsd, hq1⟩ (fun locs hL => ?_)
  refine b_ifne (tgt := 13) X dX2_beaten_8 (by decide) (fun c_8 => ?_) (fun c_8 => ?_)
  ·
    refine lv_aload_n hx hb dX2_beaten_13 rfl (lv_at hl 0 rfl) ?_
    refine r_get (C := RX2) (T := TX2) (N := 4) (ci := 2) X in_X2 rfl 0 (Nat.le_of_ble_eq_true rfl) q210 (fun _ h => h) ob rfl dX2_beaten_14 ?_
    refine lv_aload_n hx hb dX2_beaten_17 rfl (lv_at hl 0 rfl) ?_
    refine lv_aload_n hx hb dX2_beaten_18 rfl (lv_at hl 1 rfl) ?_
    obtain ⟨b1, hb1⟩ : ∃ b, s.heap.size = b := ⟨_, rfl⟩
    have sz_b1 : s.heap.size ≤ b1 := by rw [← hb1]; exact Nat.le_refl _
    have lo_b1 : gLo g ≤ b1 := Nat.le_trans X.2.2.2.2.2.2.2.1.2.1 sz_b1
    have ne_a_b1 : a ≠ b1 := Nat.ne_of_lt (by rw [← hb1]; exact ob.lt)
    refine r_indy (k := 7) (σ := lm7s) X hnm hl lm7q [.ref a, .ref q] [.object "OfferSky$State", .object "OfferSky$Offer"] (lm7 hKV X.2.2.2.2.1).1.2 rfl rfl rfl (by intro i t v h1 h2; rcases i with _ | _ | _ | i <;> simp at h1 h2 <;> (try (subst h1; subst h2; rfl))) rfl (Nat.le_of_ble_eq_true rfl) (by show _ + 1 ≤ 1; omega) (by show _ + 2 ≤ 2; omega) dX2_beaten_19 (fun H ha_b1 hE_b1 hz_b1 => ?_)
    rw [hb1] at ha_b1 hz_b1 ⊢
    have ob := ob.ext hE_b1
    have hbg := hbg.ext hE_b1
    have hst := hst.ext hE_b1
    have hof := hof.ext hE_b1
    have hsd := hsd.ext hE_b1
    have hq := hq.ext hE_b1
    rw [show ([.ref a, .ref q] : List Value).length = 2 from rfl]
    refine Ct.callV (ct_X3_counts l g PB x (List.range n) sb b1 (fun i => couB (mle ro) (mgr ro) (mv ro i) && beyB (mw ro) f (mv ro i) (swB (mw ro) (nI 15))) hrl) X hL hl vb_X3_counts q1126 (hbg.recv hKV) rfl rfl (Nat.le_of_ble_eq_true rfl) dX2_beaten_24 ⟨Nat.le_of_ble_eq_true rfl, Nat.le_of_ble_eq_true rfl⟩ (by omega) (by omega) ⟨hbg, hof.el, fun i hi H1 hE1 => ru_7 (ha_b1.ext hE1) hw (hst.sd.ext hE1) (hq.ext hE1) ((hof i hi).ext hE1)⟩ (fun r H locs hL hp => ?_)
    obtain ⟨rfl, hE2⟩ := hp
    exact r_iret X hL rfl rfl dX2_beaten_27 (by omega) (by omega) ⟨by unfold bnN; rw [c_8]; rfl, hE_b1.trans hE2⟩
  ·
    refine lv_iconst (v := nI 0) hx hb dX2_beaten_11 (by decide) ?_
    exact r_iret X hL rfl rfl dX2_beaten_12 (by omega) (by omega) ⟨by unfold bnN; rw [c_8]; rfl, Ext.rfl'⟩
theorem vb_X2_beaten : VB yX2_beaten cX2_beaten 2 (some .int) 1 := ⟨q1120, q1121, q100, q1122, ⟨by decide, by decide, by decide +kernel⟩⟩

set_option maxRecDepth 100000 in
set_option maxHeartbeats 4000000 in
theorem ct_X2_isTold (l : Launch) (g : GT) (ro : Nat → Int32) (n : Nat) (x : Nat → Nat) (a : Nat) (f : Nat → Int32) (q : Nat) (hn : n ≤ 40) (hw : WO (mw ro)) : Ct l g yX2_isTold cX2_isTold 2 (some .boolean) 14 1 2 [.ref a, .ref q] (fun H => StQ g ro n x a H ∧ OfQ g f q H) (fun r H H1 => r = some (.int (bI (couB (mle ro) (mgr ro) f && decide (bsN ro n f = 0)))) ∧ Ext H H1) := by
  refine Ct.of (by decide) (Nat.le_of_ble_eq_true rfl) ?_
  intro p e s m args below meth c X hP ls hl
  have hx := X.1
  have hb := X.2.1
  have hKV := X.2.2.2.2.2.2.2.1.1
  have hL : ∀ q ∈ ([] : List Loc), gLo g ≤ q.base := fun _ h => by cases h
  obtain ⟨hst, hq⟩ := hP
  have hst9 := hst
  obtain ⟨sb, sd, PB, PS, ob, hbg, hsd, hof, hinj⟩ := hst9
  have hl : lv_has ls 2 [(0, .ref a), (1, .ref q)] := hl
  have hrl : (List.range n).length ≤ 40 := by rw [rng_len]; exact hn
  refine lv_aload_n hx hb dX2_isTold_0 rfl (lv_at hl 0 rfl) ?_
  refine r_get (C := RX2) (T := TX2) (N := 4) (ci := 2) X in_X2 rfl 1 (Nat.le_of_ble_eq_true rfl) q212 (fun _ h => h) ob rfl dX2_isTold_1 ?_
  refine lv_aload_n hx hb dX2_isTold_4 rfl (lv_at hl 1 rfl) ?_
  obtain ⟨I1, hq1⟩ := id hq
  refine Cp.callV (v := .int (bI (couB (mle ro) (mgr ro) f))) (ct_X4_counts l g PS ro sd I1 f q ) X hL hl vb_X4_counts q534 (hsd.recv hKV) rfl rfl (Nat.le_of_ble_eq_true rfl) dX2_isTold_5 ⟨Nat.le_of_ble_eq_true rfl, Nat.le_of_ble_eq_true rfl⟩ (by omega) (by omega) ⟨hsd, hq1⟩ (fun locs hL => ?_)
  refine b_ifeq (tgt := 23) X dX2_isTold_8 (by decide) (fun c_8 => ?_) (fun c_8 => ?_)
  ·
    refine lv_iconst (v := nI 0) hx hb dX2_isTold_23 (by decide) ?_
    exact r_iret X hL rfl rfl dX2_isTold_24 (by omega) (by omega) ⟨v_f (by rw [c_8]; rfl), Ext.rfl'⟩
  ·
    refine lv_aload_n hx hb dX2_isTold_11 rfl (lv_at hl 0 rfl) ?_
    refine lv_aload_n hx hb dX2_isTold_12 rfl (lv_at hl 1 rfl) ?_
    refine Ct.callV (ct_X2_beaters l g ro n x a f q hn hw) X hL hl vb_X2_beaters q1191 (hst.recv hKV) rfl rfl (Nat.le_of_ble_eq_true rfl) dX2_isTold_13 ⟨Nat.le_of_ble_eq_true rfl, Nat.le_of_ble_eq_true rfl⟩ (by omega) (by omega) ⟨hst, hq⟩ (fun r H locs hL hp => ?_)
    obtain ⟨rfl, hE2⟩ := hp
    have hbl : bsN ro n f ≤ 40 := by unfold bsN; split <;> first | exact Nat.zero_le _ | exact Nat.le_trans (List.length_filter_le _ _) hrl
    refine n_ifne (tgt := 23) X dX2_isTold_16 (by decide) (by omega) (fun c_16 => ?_) (fun c_16 => ?_)
    ·
      refine lv_iconst (v := nI 0) hx hb dX2_isTold_23 (by decide) ?_
      exact r_iret X hL rfl rfl dX2_isTold_24 (by omega) (by omega) ⟨v_f (by rw [decide_eq_false (by omega), Bool.and_false]), hE2⟩
    ·
      refine lv_iconst (v := nI 1) hx hb dX2_isTold_19 (by decide) ?_
      refine lv_goto (tgt := 24) hx hb dX2_isTold_20 (by decide) ?_
      exact r_iret X hL rfl rfl dX2_isTold_24 (by omega) (by omega) ⟨v_t (by rw [c_8, decide_eq_true (by omega)]; rfl), hE2⟩
theorem vb_X2_isTold : VB yX2_isTold cX2_isTold 2 (some .boolean) 1 := ⟨q1188, q1189, q100, q1190, ⟨by decide, by decide, by decide +kernel⟩⟩
