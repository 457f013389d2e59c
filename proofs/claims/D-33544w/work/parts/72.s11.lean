theorem Lo.chg {g : GT} {a k : Nat} {vs : List Value} {P : Nat → Prop} {H H1 : Heap} (h : Lo g a k vs H) (c : Chg P H H1) (n : ¬ P a) : Lo g a k vs H1 := (c.2 _ h.lt n).trans h
/-! the state: taken in order, the window, the scored row -/
theorem win_lt (ro : Nat → Int32) : ∀ m, (∀ i, i ∈ winL ro m → i < m) ∧ (winL ro m).length ≤ m
  | 0 => ⟨fun _ h => (by cases h), Nat.le_refl _⟩
  | m + 1 => by
    obtain ⟨h1, h2⟩ := win_lt ro m
    unfold winL
    split
    · refine ⟨fun i hi => ?_, ?_⟩
      · rcases List.mem_append.mp hi with hi | hi
        · have := h1 i (List.mem_filter.mp hi).1; omega
        · rw [List.mem_singleton] at hi; omega
      · rw [List.length_append]
        have := List.length_filter_le (fun j => !abv ro (nI 15) m j) (winL ro m)
        simp; omega
    · exact ⟨fun i hi => by have := h1 i hi; omega, by omega⟩
theorem win_t {ro : Nat → Int32} {m : Nat} (c1 : couB (mle ro) (mgr ro) (mv ro m) = true) (c2 : btV ro (nI 15) (winL ro m) (mv ro m) = false) : winL ro (m + 1) = (winL ro m).filter (fun j => !abv ro (nI 15) m j) ++ [m] := by
  rw [winL, if_pos]
  rw [show cB ro m = true from c1, show isBt ro (nI 15) (winL ro m) m = false from c2]; rfl
theorem win_f {ro : Nat → Int32} {m : Nat} (c : couB (mle ro) (mgr ro) (mv ro m) = false ∨ btV ro (nI 15) (winL ro m) (mv ro m) = true) : winL ro (m + 1) = winL ro m := by
  rw [winL, if_neg]
  rcases c with c | c
  · rw [show cB ro m = false from c]; simp
  · rw [show isBt ro (nI 15) (winL ro m) m = true from c]; simp

set_option maxRecDepth 100000 in
set_option maxHeartbeats 4000000 in
theorem ct_X2_takenInOrder (l : Launch) (g : GT) (ro : Nat → Int32) (n : Nat) (x : Nat → Nat) (a : Nat) (hn : n ≤ 40) (hw : WO (mw ro)) : Ct l g yX2_takenInOrder cX2_takenInOrder 8 (some (.object "OfferSky$Bag")) 14 40 640 [.ref a] (fun H => StQ g ro n x a H) (fun r H H1 => ∃ bb, BagR g (fun q => H.size ≤ q) (XL x (tkR ro n (min 40 (cnt (toT ro n) n)))) (tkR ro n (min 40 (cnt (toT ro n) n))).length bb H1 ∧ r = some (.ref bb) ∧ Ext H H1) := by
  refine Ct.of (by decide) (Nat.le_of_ble_eq_true rfl) ?_
  intro p e s m args below meth c X hP ls hl
  have hx := X.1
  have hb := X.2.1
  have hKV := X.2.2.2.2.2.2.2.1.1
  have hL : ∀ q ∈ ([] : List Loc), gLo g ≤ q.base := fun _ h => by cases h
  have hst := hP
  have hst9 := hst
  obtain ⟨sb, sd, PB, PS, ob, hbg, hsd, hof, hinj⟩ := hst9
  have hl : lv_has ls 8 [(0, .ref a)] := hl
  have hrl : (List.range n).length ≤ 40 := by rw [rng_len]; exact hn
  have hE : Ext s.heap s.heap := Ext.rfl'
  have ob0 := ob
  have hst0 := hst
  have hof0 := hof
  have hbg0 := hbg
  have hsd0 := hsd
  refine lv_aload_n hx hb dX2_takenInOrder_0 rfl (lv_at hl 0 rfl) ?_
  refine Ct.callV (ct_X2_active l g ro n x a hn) X hL hl vb_X2_active q527 (hst.recv hKV) rfl rfl (Nat.le_of_ble_eq_true rfl) dX2_takenInOrder_1 ⟨Nat.le_of_ble_eq_true rfl, Nat.le_of_ble_eq_true rfl⟩ (by omega) (by omega) hst (fun r H locs hL hp => ?_)
  obtain ⟨bb, hbb, rfl, hE1⟩ := hp
  have ob := ob.ext hE1
  have hst := hst.ext hE1
  have hof := hof.ext hE1
  have hbg := hbg.ext hE1
  have hsd := hsd.ext hE1
  have hE := hE.trans hE1
  have hqbb : BgQ g x (actL ro n) bb H := ⟨_, hbb⟩
  have hla : (actL ro n).length ≤ 40 := act_len hn
  have hofa : OfL g ro x (actL ro n) H := hof.sub (fun i hi => act_in hi)
  refine lv_astore_n (lv' := [(1, .ref _), (0, .ref _)]) hx hb dX2_takenInOrder_4 rfl hl (by decide) rfl (fun ls hl => ?_)
  refine lv_aload_n hx hb dX2_takenInOrder_5 rfl (lv_at hl 1 rfl) ?_
  refine lv_aload_n hx hb dX2_takenInOrder_6 rfl (lv_at hl 0 rfl) ?_
  refine Ct.callV (ct_X2_told l g ro x a (actL ro n) bb hw hla) X hL hl vb_X2_told q553 (hst.recv hKV) rfl rfl (Nat.le_of_ble_eq_true rfl) dX2_takenInOrder_7 ⟨Nat.le_of_ble_eq_true rfl, Nat.le_of_ble_eq_true rfl⟩ (by omega) (by omega) ⟨hst.sd, hqbb, hofa⟩ (fun r H locs hL hp => ?_)
  obtain ⟨tb, htb, rfl, hE1⟩ := hp
  have ob := ob.ext hE1
  have hst := hst.ext hE1
  have hof := hof.ext hE1
  have hbg := hbg.ext hE1
  have hsd := hsd.ext hE1
  have hofa := hofa.ext hE1
  have hbb := hbb.ext hE1
  have hqbb := hqbb.ext hE1
  have hE := hE.trans hE1
  have hqtb : BgQ g x (tolL ro (nI 15) (actL ro n)) tb H := ⟨_, htb⟩
  rw [tol_T] at htb hqtb
  have hlt : ((List.range n).filter (toT ro n)).length ≤ 40 := by rw [range_filter]; exact Nat.le_trans (cnt_le _ _) hn
  have hoft : OfL g ro x ((List.range n).filter (toT ro n)) H := hof.sub (fun i hi => (List.mem_filter.mp hi).1)
  have htb := htb.bnd
  have hbb := hbb.bnd
  have hofa0 : OfL g ro x (actL ro n) s.heap := hof0.sub (fun i hi => act_in hi)
  have hoft0 : OfL g ro x ((List.range n).filter (toT ro n)) s.heap := hof0.sub (fun i hi => (List.mem_filter.mp hi).1)
  refine lv_astore_n (lv' := [(2, .ref _), (1, .ref _), (0, .ref _)]) hx hb dX2_takenInOrder_10 rfl hl (by decide) rfl (fun ls hl => ?_)
  obtain ⟨b1, hb1⟩ : ∃ b, H.size = b := ⟨_, rfl⟩
  have sz_b1 : s.heap.size ≤ b1 := by rw [← hb1]; exact hE.1
  have lo_b1 : gLo g ≤ b1 := Nat.le_trans X.2.2.2.2.2.2.2.1.2.1 sz_b1
  have ne_a_b1 : a ≠ b1 := Nat.ne_of_lt (by rw [← hb1]; exact ob.lt)
  refine r_new (C := RX3) (T := TX3) (N := 1) (ci := 3) X in_X3 tyX3 tyX3_ok q146 q147 q101 rfl (fs := [.null]) (fun j hj => by rcases j with _ | _ | _ | _ | _ | j <;> first | rfl | omega) (by show _ + 1 ≤ 40; omega) (by show _ + 1 ≤ 640; omega) dX2_takenInOrder_11 (fun H ha_b1 hE_b1 hz_b1 => ?_)
  rw [hb1] at ha_b1 hz_b1 ⊢
  have ob := ob.ext hE_b1
  have hbg := hbg.ext hE_b1
  have hst := hst.ext hE_b1
  have hof := hof.ext hE_b1
  have hsd := hsd.ext hE_b1
  have htb := htb.ext hE_b1
  have hbb := hbb.ext hE_b1
  have hE := hE.trans hE_b1
  refine lv_dup hx hb dX2_takenInOrder_14 rfl ?_
  refine Ct.callIN (ct_X3_init l g (fun q => b1 ≤ q) b1 (Nat.le_refl _) lo_b1) X hL hl ib_X3_init q148 rfl rfl (Nat.le_of_ble_eq_true rfl) dX2_takenInOrder_15 ⟨Nat.le_of_ble_eq_true rfl, Nat.le_of_ble_eq_true rfl⟩ (by omega) (by omega) ⟨ha_b1, fun q hq => by have := hz_b1; omega⟩ (fun r H locs hL hp => ?_)
  obtain ⟨al, rfl, ha_b1, hK0, hC1⟩ := hp
  have hE := hE.chgx hC1 (fun q hq => Nat.le_trans sz_b1 hq)
  have hKz := hK0 (XL x [])
  have ob := ob0.ext hE
  have hst := hst0.ext hE
  have hof := hof0.ext hE
  have hbg := hbg0.ext hE
  have hsd := hsd0.ext hE
  have htb := htb.keep hC1 (fun q hq => by have := hq.2; omega) (by have := hKV.gE; omega)
  have hqtb : BgQ g x ((List.range n).filter (toT ro n)) tb H := ⟨_, htb⟩
  have hofa := hofa0.ext hE
  have hoft := hoft0.ext hE
  have hqbb : BgQ g x (actL ro n) bb H := ⟨_, hbb.keep hC1 (fun q hq => by have := hq.2; omega) (by have := hKV.gE; omega)⟩
  refine lv_astore_n (lv' := [(3, .ref _), (2, .ref _), (1, .ref _), (0, .ref _)]) hx hb dX2_takenInOrder_18 rfl hl (by decide) rfl (fun ls hl => ?_)
  refine lv_aload_n hx hb dX2_takenInOrder_19 rfl (lv_at hl 3 rfl) ?_
  refine lv_aload_n hx hb dX2_takenInOrder_20 rfl (lv_at hl 3 rfl) ?_
  refine lv_aload_n hx hb dX2_takenInOrder_21 rfl (lv_at hl 1 rfl) ?_
  refine lv_aload_n hx hb dX2_takenInOrder_22 rfl (lv_at hl 2 rfl) ?_
  refine Ct.callV (ct_X2_masks l g ro a x ((List.range n).filter (toT ro n)) (actL ro n) tb bb hw hlt hla) X hL hl vb_X2_masks q1094 (hst.recv hKV) rfl rfl (Nat.le_of_ble_eq_true rfl) dX2_takenInOrder_23 ⟨Nat.le_of_ble_eq_true rfl, Nat.le_of_ble_eq_true rfl⟩ (by omega) (by omega) ⟨hst.sd, hqtb, hqbb, hoft, hofa⟩ (fun r H locs hL hp => ?_)
  obtain ⟨mb, mf, ⟨hmb, hms, hml, hmf⟩, rfl, hE1⟩ := hp
  have ob := ob.ext hE1
  have hst := hst.ext hE1
  have hof := hof.ext hE1
  have hbg := hbg.ext hE1
  have hsd := hsd.ext hE1
  have hqbb := hqbb.ext hE1
  have hofa := hofa.ext hE1
  have htb := htb.ext hE1
  have hqtb := hqtb.ext hE1
  have hoft := hoft.ext hE1
  have ha_b1 := ha_b1.ext hE1
  have hKz := hKz.ext hE1
  have hE := hE.trans hE1
  refine lv_bipush (v := nI 40) hx hb dX2_takenInOrder_26 (by decide) ?_
  have hKm0 := hKz.mem
  have hbz0 := ha_b1.lt
  refine Ct.callV (ct_X2_greedy l g ro n (toT ro n) a mb mf 40 hn toT_c hmf (by omega)) X hL hl vb_X2_greedy q1240 (hst.recv hKV) rfl rfl (Nat.le_of_ble_eq_true rfl) dX2_takenInOrder_28 ⟨Nat.le_of_ble_eq_true rfl, Nat.le_of_ble_eq_true rfl⟩ (by omega) (by omega) hmb (fun r H4 locs hL hp => ?_)
  obtain ⟨tk, ft, ⟨htk, hts, hft⟩, rfl, hE1⟩ := hp
  have ob := ob.ext hE1
  have hst := hst.ext hE1
  have hof := hof.ext hE1
  have hbg := hbg.ext hE1
  have hsd := hsd.ext hE1
  have hqbb := hqbb.ext hE1
  have hofa := hofa.ext hE1
  have htb := htb.ext hE1
  have hqtb := hqtb.ext hE1
  have hoft := hoft.ext hE1
  have ha_b1 := ha_b1.ext hE1
  have hKz := hKz.ext hE1
  have hE := hE.trans hE1
  have hKm := hKz.mem
  have hK := hKz.re0 (Q := (fun q => QX b1 al H4.size q ∧ q ≠ b1)) ⟨Or.inr (Or.inl rfl), hKm.1.2⟩
  have hal := hKm.1
  have hala := hKm.2
  have hbz := ha_b1.lt
  have htkl := htk.lt
  have hE4 := hE
  have htb4 := htb
  have htk4 := htk
  have hQs : ∀ q, QX b1 al H4.size q → s.heap.size ≤ q := fun q hq => by unfold QX at hq; have := hE.1; omega
  have hQE : ¬ QX b1 al H4.size (gE g) := fun z => by unfold QX at z; have := hKV.gE; omega
  have hQt : ¬ QX b1 al H4.size tk := fun z => by unfold QX at z; omega
  have hCr : Chg (QX b1 al H4.size) H4 H4 := Chg.rfl'
  refine lv_astore (lv' := [(4, .ref _), (3, .ref _), (2, .ref _), (1, .ref _), (0, .ref _)]) hx hb dX2_takenInOrder_31 hl (by decide) rfl (fun ls hl => ?_)
  refine lv_aload hx hb dX2_takenInOrder_33 (lv_at hl 0 rfl) ?_
  refine r_len (k := 0) (v := nI (min 40 ((List.range n).filter (toT ro n)).length)) X htk rfl rfl dX2_takenInOrder_35 ?_
  refine lv_istore (lv' := [(5, .int _), (4, .ref _), (3, .ref _), (2, .ref _), (1, .ref _), (0, .ref _)]) hx hb dX2_takenInOrder_36 hl (by decide) rfl (fun ls hl => ?_)
  refine lv_iconst (v := nI 0) hx hb dX2_takenInOrder_38 (by decide) ?_
  refine lv_istore (lv' := [(6, .int _), (5, .int _), (4, .ref _), (3, .ref _), (2, .ref _), (1, .ref _), (0, .ref _)]) hx hb dX2_takenInOrder_39 hl (by decide) rfl (fun ls hl => ?_)
  have L41 : ∀ (fuel : Nat) (k cap u v : Nat), (min 40 ((List.range n).filter (toT ro n)).length) - k < fuel → (k ≤ (min 40 ((List.range n).filter (toT ro n)).length)) → (CapR cap u v) → ∀ (H : Heap), Ob g b1 3 [.ref al] H → LstK g (fun q => QX b1 al H4.size q ∧ q ≠ b1) (XL x (tkR ro n k)) (tkR ro n k).length cap al H → Chg (QX b1 al H4.size) H4 H → ∀ (locs : List Loc), (∀ q ∈ locs, gLo g ≤ q.base) → ∀ (ls : Array Slot), lv_has ls 8 [(2, .ref tb), (3, .ref b1), (4, .ref tk), (5, .int (nI (min 40 ((List.range n).filter (toT ro n)).length))), (6, .int (nI k))] → W p l e (rmL 14 40 640) s m args below meth c H locs (30 + u) (500 + v) (MQ below (Qcg (fun r H H1 => ∃ bb, BagR g (fun q => H.size ≤ q) (XL x (tkR ro n (min 40 (cnt (toT ro n) n)))) (tkR ro n (min 40 (cnt (toT ro n) n))).length bb H1 ∧ r = some (.ref bb) ∧ Ext H H1)) args s 40 640 (fre g)) (F0 m 41 ls []) := by
    intro fuel
    induction fuel with
    | zero => intro k cap u v hfu; exact absurd hfu (Nat.not_lt_zero _)
    | succ fuel ih41 =>
      intro k cap u v hfu hk hcr H ha_b1 hK hC4 locs hL ls hl
      have hE := hE4.chgx hC4 hQs
      have ob := ob0.ext hE
      have hst := hst0.ext hE
      have hof := hof0.ext hE
      have hbg := hbg0.ext hE
      have hsd := hsd0.ext hE
      have htb := htb4.keep hC4 (fun q hq z => by have := hq.2; unfold QX at z; omega) hQE
      have hcl := hcr.le
      have htk := htk4.chg hC4 hQt
      have hkl : (tkR ro n k).length = k := tkR_len ro n k
      have hNc : ((List.range n).filter (toT ro n)).length = cnt (toT ro n) n := range_filter _ _
      refine lv_iload hx hb dX2_takenInOrder_41 (lv_at hl 4 rfl) ?_
      refine lv_iload hx hb dX2_takenInOrder_43 (lv_at hl 3 rfl) ?_
      refine n_icmp_ge (tgt := 74) X dX2_takenInOrder_45 (by decide) (by omega) (by omega) (fun c_45 => ?_) (fun c_45 => ?_)
      ·
        refine lv_aload_n hx hb dX2_takenInOrder_74 rfl (lv_at hl 1 rfl) ?_
        exact r_aret X hL rfl (Or.inl ⟨_, rfl⟩) (Or.inr ⟨_, rfl⟩) dX2_takenInOrder_75 (by omega) (by omega) ⟨b1, (show BagR g _ _ _ b1 H from ⟨al, Or.inl rfl, lo_b1, ha_b1, by rw [show min 40 (cnt (toT ro n) n) = k by omega]; exact hK.lst⟩ : BagR g (QX b1 al H4.size) (XL x (tkR ro n (min 40 (cnt (toT ro n) n)))) (tkR ro n (min 40 (cnt (toT ro n) n))).length b1 H).to (fun _ _ => rfl) hQs, rfl, hE⟩
      ·
        refine lv_aload hx hb dX2_takenInOrder_48 (lv_at hl 2 rfl) ?_
        refine lv_iload hx hb dX2_takenInOrder_50 (lv_at hl 4 rfl) ?_
        obtain ⟨hg2, hg3⟩ := tk_at hn (ro := ro) (k := k) (by omega)
        obtain ⟨hp1, hp2⟩ := pos_at hg2 hg3
        refine r_ild X htk k (nI_cl (by omega) rfl) (nI_nn (by omega) rfl) (by omega) dX2_takenInOrder_52 ?_
        rw [show ft k = (nI (cnt (toT ro n) (gBs ro n (toT ro n) k))) from (hft k (by omega))]
        refine lv_istore (lv' := [(7, .int _), (2, .ref _), (3, .ref _), (4, .ref _), (5, .int _), (6, .int _)]) hx hb dX2_takenInOrder_53 hl (by decide) rfl (fun ls hl => ?_)
        refine lv_aload_n hx hb dX2_takenInOrder_55 rfl (lv_at hl 2 rfl) ?_
        refine lv_aload_n hx hb dX2_takenInOrder_56 rfl (lv_at hl 1 rfl) ?_
        refine lv_iload hx hb dX2_takenInOrder_57 (lv_at hl 0 rfl) ?_
        refine Cp.callV (v := .ref (x (((List.range n).filter (toT ro n)).getD (cnt (toT ro n) (gBs ro n (toT ro n) k)) 0))) (ct_X3_get l g _ (XL x ((List.range n).filter (toT ro n))) (((List.range n).filter (toT ro n)).length) tb (cnt (toT ro n) (gBs ro n (toT ro n) k)) hp1) X hL hl vb_X3_get q568 (htb.recv hKV) rfl rfl (Nat.le_of_ble_eq_true rfl) dX2_takenInOrder_59 ⟨Nat.le_of_ble_eq_true rfl, Nat.le_of_ble_eq_true rfl⟩ (by omega) (by omega) htb (fun locs hL => ?_)
        rw [hp2]
        obtain ⟨fqk, oqk⟩ := (hof _ (rng_mem hg2)).ob
        refine r_cast (ci := 5) X rfl oqk q572 dX2_takenInOrder_62 ?_
        obtain ⟨u1, v1, hu, hcr1⟩ := hcr.step hK.cap.1 (by omega)
        have hcl1 := hcr1.le
        have hnq : ∀ i, i ∈ List.range n → ¬ QX b1 al H4.size (x i) := fun i hi z => by have := hof0.lt hi; have := sz_b1; unfold QX at z; omega
        refine Ct.callV (ct_X3_adds l g (QX b1 al H4.size) (XL x (tkR ro n k)) ((tkR ro n k).length) cap b1 al (x (gBs ro n (toT ro n) k)) u1 v1 (by omega) (Or.inl rfl) (hnq _ (rng_mem (tk_at hn (by omega)).1)) hu) X hL hl vb_X3_adds q1064 (ha_b1.recv hKV rfl) rfl rfl (Nat.le_of_ble_eq_true rfl) dX2_takenInOrder_65 ⟨Nat.le_of_ble_eq_true rfl, Nat.le_of_ble_eq_true rfl⟩ (by omega) (by omega) ⟨⟨ha_b1, hK, (hof.sub (fun i hi => tkR_in hn (by omega) hi)).elr (fun i hi => hnq i (tkR_in hn (by omega) hi)), (hof _ (rng_mem (tk_at hn (by omega)).1)).ob⟩, fun q hq => Or.inr (Or.inr (Nat.le_trans hC4.1 hq))⟩ (fun r H locs hL hp => ?_)
        obtain ⟨rfl, ha_b1, hK, hC1⟩ := hp
        have hC4 := hC4.trans hC1
        have hK := hK.to (XL_app x (tkR ro n k) (gBs ro n (toT ro n) k)) (fun _ h => h)
        refine lv_iinc (v := nI (k + 1)) (lv' := [(6, .int _), (7, .int _), (2, .ref _), (3, .ref _), (4, .ref _), (5, .int _)]) hx hb dX2_takenInOrder_68 hl (k := 5) rfl (nI_iinc _ 1 rfl) (by decide) rfl (fun ls hl => ?_)
        refine lv_goto (tgt := 41) hx hb dX2_takenInOrder_71 (by decide) ?_
        rw [len_app, ← tkR_s] at hK
        exact W.widen (by omega) (by omega) (ih41 (k + 1) _ (u + u1) (v + v1) (by omega) (by omega) hcr1 _ ha_b1 hK hC4 _ hL ls (lv_sub hl [2, 3, 4, 5, 0] rfl))
  exact W.widen (by omega) (by omega) (L41 ((min 40 ((List.range n).filter (toT ro n)).length) + 1) 0 0 0 0 (by omega) (by omega) (Or.inl ⟨rfl, rfl, rfl⟩) _ ha_b1 hK hCr _ hL ls (lv_sub hl [4, 3, 2, 1, 0] rfl))
theorem vb_X2_takenInOrder : VB yX2_takenInOrder cX2_takenInOrder 8 (some (.object "OfferSky$Bag")) 0 := ⟨q1254, q1255, q100, q1256, ⟨by decide, by decide, by decide +kernel⟩⟩

set_option maxRecDepth 100000 in
set_option maxHeartbeats 4000000 in
theorem ct_X2_scored (l : Launch) (g : GT) (ro : Nat → Int32) (n : Nat) (x : Nat → Nat) (a : Nat) (hn : n ≤ 40) (hw : WO (mw ro)) : Ct l g yX2_scored cX2_scored 1 (some (.object "OfferSky$Bag")) 14 18 283 [.ref a] (fun H => StQ g ro n x a H) (fun r H H1 => ∃ bb, BagR g (fun q => H.size ≤ q) (XL x (scrL ro n)) (scrL ro n).length bb H1 ∧ r = some (.ref bb) ∧ Ext H H1) := by
  refine Ct.ofN (by decide) (Nat.le_of_ble_eq_true rfl) ?_
  intro p e s m args below meth c X hnm hP ls hl
  have hx := X.1
  have hb := X.2.1
  have hKV := X.2.2.2.2.2.2.2.1.1
  have hL : ∀ q ∈ ([] : List Loc), gLo g ≤ q.base := fun _ h => by cases h
  have hst := hP
  have hst9 := hst
  obtain ⟨sb, sd, PB, PS, ob, hbg, hsd, hof, hinj⟩ := hst9
  have hl : lv_has ls 1 [(0, .ref a)] := hl
  have hrl : (List.range n).length ≤ 40 := by rw [rng_len]; exact hn
  have hE : Ext s.heap s.heap := Ext.rfl'
  have ob0 := ob
  have hst0 := hst
  have hof0 := hof
  have hbg0 := hbg
  have hsd0 := hsd
  refine lv_aload_n hx hb dX2_scored_0 rfl (lv_at hl 0 rfl) ?_
  refine Ct.callV (ct_X2_active l g ro n x a hn) X hL hl vb_X2_active q527 (hst.recv hKV) rfl rfl (Nat.le_of_ble_eq_true rfl) dX2_scored_1 ⟨Nat.le_of_ble_eq_true rfl, Nat.le_of_ble_eq_true rfl⟩ (by omega) (by omega) hst (fun r H locs hL hp => ?_)
  obtain ⟨bb, hbb, rfl, hE1⟩ := hp
  have ob := ob.ext hE1
  have hst := hst.ext hE1
  have hof := hof.ext hE1
  have hbg := hbg.ext hE1
  have hsd := hsd.ext hE1
  have hE := hE.trans hE1
  have hqbb : BgQ g x (actL ro n) bb H := ⟨_, hbb⟩
  have hla : (actL ro n).length ≤ 40 := act_len hn
  have hofa : OfL g ro x (actL ro n) H := hof.sub (fun i hi => act_in hi)
  refine lv_aload_n hx hb dX2_scored_4 rfl (lv_at hl 0 rfl) ?_
  obtain ⟨b1, hb1⟩ : ∃ b, H.size = b := ⟨_, rfl⟩
  have sz_b1 : s.heap.size ≤ b1 := by rw [← hb1]; exact hE.1
  have lo_b1 : gLo g ≤ b1 := Nat.le_trans X.2.2.2.2.2.2.2.1.2.1 sz_b1
  have ne_a_b1 : a ≠ b1 := Nat.ne_of_lt (by rw [← hb1]; exact ob.lt)
  refine r_indy (k := 14) (σ := lm14s) X hnm hl lm14q [.ref a] [.object "OfferSky$State"] (lm14 hKV X.2.2.2.2.1).1.2 rfl rfl rfl (by intro i t v h1 h2; rcases i with _ | _ | _ | i <;> simp at h1 h2 <;> (try (subst h1; subst h2; rfl))) rfl (Nat.le_of_ble_eq_true rfl) (by show _ + 1 ≤ 18; omega) (by show _ + 1 ≤ 283; omega) dX2_scored_5 (fun H ha_b1 hE_b1 hz_b1 => ?_)
  rw [hb1] at ha_b1 hz_b1 ⊢
  have ob := ob.ext hE_b1
  have hbg := hbg.ext hE_b1
  have hst := hst.ext hE_b1
  have hof := hof.ext hE_b1
  have hsd := hsd.ext hE_b1
  have hbb := hbb.ext hE_b1
  have hqbb := hqbb.ext hE_b1
  have hofa := hofa.ext hE_b1
  rw [show ([.ref a] : List Value).length = 1 from rfl]
  have hE := hE.trans hE_b1
  refine Ct.callV (ct_X3_ordered l g _ x (actL ro n) bb b1 (ahS (scoI ro)) hla) X hL hl vb_X3_ordered q1023 (hbb.recv hKV) rfl rfl (Nat.le_of_ble_eq_true rfl) dX2_scored_10 ⟨Nat.le_of_ble_eq_true rfl, Nat.le_of_ble_eq_true rfl⟩ (by omega) (by omega) ⟨hbb, hofa.el, fun i j hi hj H1 hE1 => ru_14 (ha_b1.ext hE1) hw (hst.sd.ext hE1) ((hofa i hi).ext hE1) ((hofa j hj).ext hE1)⟩ (fun r H locs hL hp => ?_)
  obtain ⟨rb, hrb, rfl, hE1⟩ := hp
  exact r_aret X hL rfl (Or.inl ⟨_, rfl⟩) (Or.inr ⟨_, rfl⟩) dX2_scored_13 (by omega) (by omega) ⟨rb, hrb.to (fun _ _ => rfl) (fun q hq => Nat.le_trans hE.1 hq), rfl, hE.trans hE1⟩
theorem vb_X2_scored : VB yX2_scored cX2_scored 1 (some (.object "OfferSky$Bag")) 0 := ⟨q1261, q1262, q100, q1263, ⟨by decide, by decide, by decide +kernel⟩⟩

set_option maxRecDepth 100000 in
set_option maxHeartbeats 4000000 in
theorem ct_X2_window (l : Launch) (g : GT) (ro : Nat → Int32) (n : Nat) (x : Nat → Nat) (a : Nat) (hn : n ≤ 40) (hw : WO (mw ro)) : Ct l g yX2_window cX2_window 5 (some (.object "OfferSky$Bag")) 14 82 4090 [.ref a] (fun H => StQ g ro n x a H) (fun r H H1 => ∃ bb, BagR g (fun q => H.size ≤ q) (XL x (winL ro n)) (winL ro n).length bb H1 ∧ r = some (.ref bb) ∧ Ext H H1) := by
  refine Ct.ofN (by decide) (Nat.le_of_ble_eq_true rfl) ?_
  intro p e s m args below meth c X hnm hP ls hl
  have hx := X.1
  have hb := X.2.1
  have hKV := X.2.2.2.2.2.2.2.1.1
  have hL : ∀ q ∈ ([] : List Loc), gLo g ≤ q.base := fun _ h => by cases h
  have hst := hP
  have hst9 := hst
  obtain ⟨sb, sd, PB, PS, ob, hbg, hsd, hof, hinj⟩ := hst9
  have hl : lv_has ls 5 [(0, .ref a)] := hl
  have hrl : (List.range n).length ≤ 40 := by rw [rng_len]; exact hn
  have hE : Ext s.heap s.heap := Ext.rfl'
  have ob0 := ob
  have hst0 := hst
  have hof0 := hof
  have hbg0 := hbg
  have hsd0 := hsd
  obtain ⟨b1, hb1⟩ : ∃ b, s.heap.size = b := ⟨_, rfl⟩
  have sz_b1 : s.heap.size ≤ b1 := by rw [← hb1]; exact Nat.le_refl _
  have lo_b1 : gLo g ≤ b1 := Nat.le_trans X.2.2.2.2.2.2.2.1.2.1 sz_b1
  have ne_a_b1 : a ≠ b1 := Nat.ne_of_lt (by rw [← hb1]; exact ob.lt)
  refine r_new (C := RX3) (T := TX3) (N := 1) (ci := 3) X in_X3 tyX3 tyX3_ok q146 q147 q101 rfl (fs := [.null]) (fun j hj => by rcases j with _ | _ | _ | _ | _ | j <;> first | rfl | omega) (by show _ + 1 ≤ 82; omega) (by show _ + 1 ≤ 4090; omega) dX2_window_0 (fun H ha_b1 hE_b1 hz_b1 => ?_)
  rw [hb1] at ha_b1 hz_b1 ⊢
  have ob := ob.ext hE_b1
  have hbg := hbg.ext hE_b1
  have hst := hst.ext hE_b1
  have hof := hof.ext hE_b1
  have hsd := hsd.ext hE_b1
  have hE := hE.trans hE_b1
  have hCe : ∀ H1, Chg (fun q => s.heap.size ≤ q) s.heap H1 → Ext s.heap H1 := fun _ h => h.ext (fun q hq z => absurd z (Nat.not_le_of_lt hq))
  refine lv_dup hx hb dX2_window_3 rfl ?_
  refine Ct.callIN (ct_X3_init l g (fun q => s.heap.size ≤ q) b1 sz_b1 lo_b1) X hL hl ib_X3_init q148 rfl rfl (Nat.le_of_ble_eq_true rfl) dX2_window_4 ⟨Nat.le_of_ble_eq_true rfl, Nat.le_of_ble_eq_true rfl⟩ (by omega) (by omega) ⟨ha_b1, fun q hq => by have := hz_b1; omega⟩ (fun r H locs hL hp => ?_)
  obtain ⟨al, rfl, ha_b1, hK0, hC1⟩ := hp
  have hC := hE.chg.trans hC1
  have hE := hCe _ hC
  have hbw : BagR g (fun q => s.heap.size ≤ q) (XL x (winL ro 0)) (winL ro 0).length b1 H := ⟨al, sz_b1, lo_b1, ha_b1, (hK0 _).lst⟩
  have ob := ob0.ext hE
  have hst := hst0.ext hE
  have hof := hof0.ext hE
  have hbg := hbg0.ext hE
  have hsd := hsd0.ext hE
  refine lv_astore_n (lv' := [(1, .ref _), (0, .ref _)]) hx hb dX2_window_7 rfl hl (by decide) rfl (fun ls hl => ?_)
  refine lv_iconst (v := nI 0) hx hb dX2_window_8 (by decide) ?_
  refine lv_istore_n (lv' := [(2, .int _), (1, .ref _), (0, .ref _)]) hx hb dX2_window_9 rfl hl (by decide) rfl (fun ls hl => ?_)
  have L10 : ∀ (fuel : Nat) (i : Nat), n - i < fuel → (i ≤ n) → ∀ (H : Heap), BagR g (fun q => s.heap.size ≤ q) (XL x (winL ro i)) (winL ro i).length b1 H → Chg (fun q => s.heap.size ≤ q) s.heap H → ∀ (locs : List Loc), (∀ q ∈ locs, gLo g ≤ q.base) → ∀ (ls : Array Slot), lv_has ls 5 [(0, .ref a), (1, .ref b1), (2, .int (nI i))] → W p l e (rmL 14 82 4090) s m args below meth c H locs (2 + 2 * i) (4 + 102 * i) (MQ below (Qcg (fun r H H1 => ∃ bb, BagR g (fun q => H.size ≤ q) (XL x (winL ro n)) (winL ro n).length bb H1 ∧ r = some (.ref bb) ∧ Ext H H1)) args s 82 4090 (fre g)) (F0 m 10 ls []) := by
    intro fuel
    induction fuel with
    | zero => intro i hfu; exact absurd hfu (Nat.not_lt_zero _)
    | succ fuel ih10 =>
      intro i hfu hi H hbw hC locs hL ls hl
      have hE := hCe _ hC
      have ob := ob0.ext hE
      have hst := hst0.ext hE
      have hof := hof0.ext hE
      have hbg := hbg0.ext hE
      have hsd := hsd0.ext hE
      obtain ⟨hwl, hwn⟩ := win_lt ro i
      refine lv_iload_n hx hb dX2_window_10 rfl (lv_at hl 2 rfl) ?_
      refine lv_aload_n hx hb dX2_window_11 rfl (lv_at hl 0 rfl) ?_
      refine r_get (C := RX2) (T := TX2) (N := 4) (ci := 2) X in_X2 rfl 0 (Nat.le_of_ble_eq_true rfl) q210 (fun _ h => h) ob rfl dX2_window_12 ?_
      refine Cp.callV (v := .int (nI ((List.range n).length))) (ct_X3_size l g PB (XL x (List.range n)) ((List.range n).length) sb ) X hL hl vb_X3_size q564 (hbg.recv hKV) rfl rfl (Nat.le_of_ble_eq_true rfl) dX2_window_15 ⟨Nat.le_of_ble_eq_true rfl, Nat.le_of_ble_eq_true rfl⟩ (by omega) (by omega) hbg (fun locs hL => ?_)
      rw [rng_len]
      refine n_icmp_ge (tgt := 79) X dX2_window_18 (by decide) (by omega) (by omega) (fun c_18 => ?_) (fun c_18 => ?_)
      ·
        refine lv_aload_n hx hb dX2_window_79 rfl (lv_at hl 1 rfl) ?_
        obtain rfl : i = n := by omega
        exact r_aret X hL rfl (Or.inl ⟨_, rfl⟩) (Or.inr ⟨_, rfl⟩) dX2_window_80 (by omega) (by omega) ⟨b1, hbw, rfl, hE⟩
      ·
        refine lv_aload_n hx hb dX2_window_21 rfl (lv_at hl 0 rfl) ?_
        refine r_get (C := RX2) (T := TX2) (N := 4) (ci := 2) X in_X2 rfl 0 (Nat.le_of_ble_eq_true rfl) q210 (fun _ h => h) ob rfl dX2_window_22 ?_
        refine lv_iload_n hx hb dX2_window_25 rfl (lv_at hl 2 rfl) ?_
        refine Cp.callV (v := .ref (x ((List.range n).getD i 0))) (ct_X3_get l g PB (XL x (List.range n)) ((List.range n).length) sb i (by rw [rng_len]; omega)) X hL hl vb_X3_get q568 (hbg.recv hKV) rfl rfl (Nat.le_of_ble_eq_true rfl) dX2_window_26 ⟨Nat.le_of_ble_eq_true rfl, Nat.le_of_ble_eq_true rfl⟩ (by omega) (by omega) hbg (fun locs hL => ?_)
        rw [rng_get (show i < n by omega)]
        have hqi := hof i (rng_mem (by omega))
        obtain ⟨Ii, hqi2⟩ := id hqi
        obtain ⟨fqi, oqi⟩ := hqi.ob
        refine r_cast (ci := 5) X rfl oqi q572 dX2_window_29 ?_
        refine lv_astore_n (lv' := [(3, .ref _), (0, .ref _), (1, .ref _), (2, .int _)]) hx hb dX2_window_32 rfl hl (by decide) rfl (fun ls hl => ?_)
        refine lv_aload_n hx hb dX2_window_33 rfl (lv_at hl 1 rfl) ?_
        refine r_get (C := RX2) (T := TX2) (N := 4) (ci := 2) X in_X2 rfl 1 (Nat.le_of_ble_eq_true rfl) q212 (fun _ h => h) ob rfl dX2_window_34 ?_
        refine lv_aload_n hx hb dX2_window_37 rfl (lv_at hl 0 rfl) ?_
        refine Cp.callV (v := .int (bI (couB (mle ro) (mgr ro) (mv ro i)))) (ct_X4_counts l g PS ro sd Ii (mv ro i) (x i) ) X hL hl vb_X4_counts q534 (hsd.recv hKV) rfl rfl (Nat.le_of_ble_eq_true rfl) dX2_window_38 ⟨Nat.le_of_ble_eq_true rfl, Nat.le_of_ble_eq_true rfl⟩ (by omega) (by omega) ⟨hsd, hqi2⟩ (fun locs hL => ?_)
        refine b_ifeq (tgt := 73) X dX2_window_41 (by decide) (fun c_41 => ?_) (fun c_41 => ?_)
        ·
          refine lv_iinc (v := nI (i + 1)) (lv' := [(2, .int _), (3, .ref _), (0, .ref _), (1, .ref _)]) hx hb dX2_window_73 hl (k := 3) rfl (nI_iinc _ 1 rfl) (by decide) rfl (fun ls hl => ?_)
          refine lv_goto (tgt := 10) hx hb dX2_window_76 (by decide) ?_
          rw [← win_f (Or.inl c_41)] at hbw
          exact W.widen (by omega) (by omega) (ih10 (i + 1) (by omega) (by omega) _ hbw hC _ hL ls (lv_sub hl [2, 3, 0] rfl))
        ·
          refine lv_aload_n hx hb dX2_window_44 rfl (lv_at hl 1 rfl) ?_
          refine lv_aload_n hx hb dX2_window_45 rfl (lv_at hl 0 rfl) ?_
          refine lv_aload_n hx hb dX2_window_46 rfl (lv_at hl 2 rfl) ?_
          refine lv_bipush (v := nI 15) hx hb dX2_window_47 (by decide) ?_
          refine Cp.callV (v := .int (bI (btV ro (nI 15) (winL ro i) (mv ro i)))) (ct_X2_isBeaten l g ro a (mv ro i) (x i) x (winL ro i) b1 (nI 15) hw (by omega)) X hL hl vb_X2_isBeaten q560 (hst.recv hKV) rfl rfl (Nat.le_of_ble_eq_true rfl) dX2_window_49 ⟨Nat.le_of_ble_eq_true rfl, Nat.le_of_ble_eq_true rfl⟩ (by omega) (by omega) ⟨hst.sd, hqi, ⟨_, hbw⟩, hof.sub (fun j hj => rng_mem (by have := hwl j hj; omega))⟩ (fun locs hL => ?_)
          refine b_ifne (tgt := 73) X dX2_window_52 (by decide) (fun c_52 => ?_) (fun c_52 => ?_)
          ·
            refine lv_iinc (v := nI (i + 1)) (lv' := [(2, .int _), (3, .ref _), (0, .ref _), (1, .ref _)]) hx hb dX2_window_73 hl (k := 3) rfl (nI_iinc _ 1 rfl) (by decide) rfl (fun ls hl => ?_)
            refine lv_goto (tgt := 10) hx hb dX2_window_76 (by decide) ?_
            rw [← win_f (Or.inr c_52)] at hbw
            exact W.widen (by omega) (by omega) (ih10 (i + 1) (by omega) (by omega) _ hbw hC _ hL ls (lv_sub hl [2, 3, 0] rfl))
          ·
            refine lv_aload_n hx hb dX2_window_55 rfl (lv_at hl 2 rfl) ?_
            refine lv_aload_n hx hb dX2_window_56 rfl (lv_at hl 1 rfl) ?_
            refine lv_aload_n hx hb dX2_window_57 rfl (lv_at hl 0 rfl) ?_
            obtain ⟨b2, hb2⟩ : ∃ b, H.size = b := ⟨_, rfl⟩
            have sz_b2 : s.heap.size ≤ b2 := by rw [← hb2]; exact hE.1
            have lo_b2 : gLo g ≤ b2 := Nat.le_trans X.2.2.2.2.2.2.2.1.2.1 sz_b2
            have ne_a_b2 : a ≠ b2 := Nat.ne_of_lt (by rw [← hb2]; exact ob.lt)
            refine r_indy (k := 8) (σ := lm8s) X hnm hl lm8q [.ref a, .ref (x i)] [.object "OfferSky$State", .object "OfferSky$Offer"] (lm8 hKV X.2.2.2.2.1).1.2 rfl rfl rfl (by intro i t v h1 h2; rcases i with _ | _ | _ | i <;> simp at h1 h2 <;> (try (subst h1; subst h2; rfl))) rfl (Nat.le_of_ble_eq_true rfl) (by show _ + 1 ≤ 82; omega) (by show _ + 2 ≤ 4090; omega) dX2_window_58 (fun H ha_b2 hE_b2 hz_b2 => ?_)
            rw [hb2] at ha_b2 hz_b2 ⊢
            have ob := ob.ext hE_b2
            have hbg := hbg.ext hE_b2
            have hst := hst.ext hE_b2
            have hof := hof.ext hE_b2
            have hsd := hsd.ext hE_b2
            rw [show ([.ref a, .ref (x i)] : List Value).length = 2 from rfl]
            have hbw := (hbw.bnd.ext hE_b2).to (Q := (fun q => s.heap.size ≤ q ∧ q ≠ b2)) (fun _ _ => rfl) (fun q hq => ⟨hq.1, by have := hq.2; omega⟩)
            have hC := hC.trans hE_b2.chg
            have hE := hE.trans hE_b2
            have hofw : OfL g ro x (winL ro i) H := hof.sub (fun j hj => rng_mem (by have := hwl j hj; omega))
            have hqi := hqi.ext hE_b2
            refine Ct.callV (ct_X3_drops l g (fun q => s.heap.size ≤ q ∧ q ≠ b2) x (winL ro i) b1 b2 (fun j => abv ro (nI 15) i j) (by omega)) X hL hl vb_X3_drops q604 (hbw.recv hKV) rfl rfl (Nat.le_of_ble_eq_true rfl) dX2_window_63 ⟨Nat.le_of_ble_eq_true rfl, Nat.le_of_ble_eq_true rfl⟩ (by omega) (by omega) ⟨hbw, hofw.el, fun j hj z => absurd z.1 (Nat.not_le_of_lt (hof0.lt (rng_mem (by have := hwl j hj; omega)))), fun q hq => ⟨Nat.le_trans hE.1 hq, by have := hz_b2; omega⟩, fun j hj H1 hC1 => ru_8 (ha_b2.chg hC1 (fun z => z.2 rfl)) hw (hst0.sd.ext (hCe _ (hC.trans (hC1.mono (fun _ z => z.1))))) ((hof0 i (rng_mem (by omega))).ext (hCe _ (hC.trans (hC1.mono (fun _ z => z.1))))) ((hof0 j (rng_mem (by have := hwl j hj; omega))).ext (hCe _ (hC.trans (hC1.mono (fun _ z => z.1)))))⟩ (fun r H locs hL hp => ?_)
            obtain ⟨rfl, hbw, hC1⟩ := hp
            have hC := hC.trans (hC1.mono (fun _ z => z.1))
            have hE := hCe _ hC
            have ob := ob0.ext hE
            have hst := hst0.ext hE
            have hof := hof0.ext hE
            have hbg := hbg0.ext hE
            have hsd := hsd0.ext hE
            obtain ⟨al, pal, lal, oal, hls⟩ := hbw
            obtain ⟨cap, hK⟩ := hls.k
            have hdl : ((winL ro i).filter (fun j => !abv ro (nI 15) i j)).length ≤ 40 := Nat.le_trans (List.length_filter_le _ _) (by omega)
            refine lv_istore (lv' := [(4, .int _), (3, .ref _), (0, .ref _), (1, .ref _), (2, .int _)]) hx hb dX2_window_66 hl (by decide) rfl (fun ls hl => ?_)
            refine lv_aload_n hx hb dX2_window_68 rfl (lv_at hl 3 rfl) ?_
            refine lv_aload_n hx hb dX2_window_69 rfl (lv_at hl 1 rfl) ?_
            refine Ct.callV (ct_X3_adds l g (fun q => s.heap.size ≤ q) (XL x ((winL ro i).filter (fun j => !abv ro (nI 15) i j))) (((winL ro i).filter (fun j => !abv ro (nI 15) i j)).length) cap b1 al (x i) 1 100 (by omega) sz_b1 (Nat.not_le_of_lt (hof0.lt (rng_mem (by omega)))) (Or.inr ⟨Nat.le_refl _, by unfold nxC; split <;> omega⟩)) X hL hl vb_X3_adds q1064 (oal.recv hKV rfl) rfl rfl (Nat.le_of_ble_eq_true rfl) dX2_window_70 ⟨Nat.le_of_ble_eq_true rfl, Nat.le_of_ble_eq_true rfl⟩ (by omega) (by omega) ⟨⟨oal, hK.to (fun _ _ => rfl) (fun q hq => ⟨hq.1.1, hq.2⟩), (hof.sub (fun j hj => rng_mem (by have := hwl j (List.mem_filter.mp hj).1; omega))).elr (fun j hj => Nat.not_le_of_lt (hof0.lt (rng_mem (by have := hwl j (List.mem_filter.mp hj).1; omega)))), (hof i (rng_mem (by omega))).ob⟩, fun q hq => Nat.le_trans hE.1 hq⟩ (fun r H locs hL hp => ?_)
            obtain ⟨rfl, oal, hK, hC1⟩ := hp
            have hC := hC.trans hC1
            have hK := hK.to (XL_app x ((winL ro i).filter (fun j => !abv ro (nI 15) i j)) i) (fun _ h => h)
            rw [len_app] at hK
            have hbw : BagR g (fun q => s.heap.size ≤ q) (XL x (((winL ro i).filter (fun j => !abv ro (nI 15) i j)) ++ [i])) (((winL ro i).filter (fun j => !abv ro (nI 15) i j)) ++ [i]).length b1 H := ⟨al, sz_b1, lal, oal, hK.lst⟩
            refine lv_iinc (v := nI (i + 1)) (lv' := [(2, .int _), (4, .int _), (3, .ref _), (0, .ref _), (1, .ref _)]) hx hb dX2_window_73 hl (k := 4) rfl (nI_iinc _ 1 rfl) (by decide) rfl (fun ls hl => ?_)
            refine lv_goto (tgt := 10) hx hb dX2_window_76 (by decide) ?_
            rw [← win_t c_41 c_52] at hbw
            exact W.widen (by omega) (by omega) (ih10 (i + 1) (by omega) (by omega) _ hbw hC _ hL ls (lv_sub hl [3, 4, 0] rfl))
  exact W.widen (by omega) (by omega) (L10 (n + 1) 0 (by omega) (by omega) _ hbw hC _ hL ls (lv_sub hl [2, 1, 0] rfl))
theorem vb_X2_window : VB yX2_window cX2_window 5 (some (.object "OfferSky$Bag")) 0 := ⟨q1158, q1159, q100, q1160, ⟨by decide, by decide, by decide +kernel⟩⟩
