/-! the state pruned -/
theorem OffR.bnd {g : GT} {I : Nat → Prop} {f : Nat → Int32} {a : Nat} {H : Heap} (x : OffR g I f a H) : OffR g (fun q => I q ∧ q < H.size) f a H := by
  obtain ⟨v, h1, h2, h3, h4, h5, h6⟩ := x
  exact ⟨v, ⟨h1, h5.lt⟩, ⟨h2, h6.lt⟩, h3, h4, h5, h6⟩
theorem prD_row {r : Nat → Int32} {n : Nat} (p : Nat → Bool) (hn : n ≤ 40) : ∀ d, d ≤ n → (prD r n p d).2 = (drL (List.range n) p (n - d)).length ∧ (∀ j, j < (prD r n p d).2 → ∀ q, q < 4 → mv (prD r n p d).1 j q = mv r ((drL (List.range n) p (n - d)).getD j 0) q) ∧ (∀ k, 161 ≤ k → k ≠ 178 → (prD r n p d).1 k = r k) ∧ (prD r n p d).1 178 = r 178 + nI (n - (prD r n p d).2)
  | 0, _ => by
    have e : drL (List.range n) p (n - 0) = List.range n := by have := drL_n (List.range n) p; rw [rng_len] at this; exact this
    rw [e]
    unfold prD
    refine ⟨(rng_len n).symm, fun j hj q _ => by rw [rng_get hj], fun _ _ _ => rfl, ?_⟩
    dsimp only
    rw [Nat.sub_self, nI_0, Int32.add_zero]
  | d + 1, h => by
    obtain ⟨h1, h2, h3, h4⟩ := prD_row (r := r) p hn d (by omega)
    have hb := prD_b r n p d (by omega)
    have hk0 : 0 < n - d := by omega
    have hk : n - d ≤ (List.range n).length := by rw [rng_len]; omega
    have hg : (List.range n).getD (n - d - 1) 0 = n - (d + 1) := by rw [rng_get (by omega)]; omega
    have hs : n - (d + 1) = n - d - 1 := by omega
    have hl := dr_len (L := List.range n) (b := p) hk
    by_cases c : p (n - (d + 1)) = true
    · have hD : prD r n p (d + 1) = (delR (prD r n p d).1 (prD r n p d).2 (n - (d + 1)), (prD r n p d).2 - 1) := by rw [prD, if_pos c]
      obtain ⟨e1, e2⟩ := dr_t (L := List.range n) (b := p) (fun z => z) hk0 hk (by rw [hg]; exact c)
      rw [hD, hs]
      refine ⟨by show _ - 1 = _; rw [h1]; exact e1, fun j hj q hq => ?_, fun k k1 k2 => ?_, ?_⟩
      · have hj : j < (prD r n p d).2 - 1 := hj
        show mv (delR (prD r n p d).1 (prD r n p d).2 (n - d - 1)) j q = _
        rw [delR_mv _ (by omega) (by omega) hj hq, h2 _ (by split <;> omega) q hq]
        have := e2 j (by omega)
        unfold remN XL at this
        dsimp only at this
        rw [← this]
        split <;> rfl
      · show delR (prD r n p d).1 (prD r n p d).2 (n - d - 1) k = _
        rw [delR_hi _ (by omega) k1 k2, h3 k k1 k2]
      · show delR (prD r n p d).1 (prD r n p d).2 (n - d - 1) 178 = _
        rw [delR_178, h4, Int32.add_assoc, nI_add, show n - (prD r n p d).2 + 1 = n - ((prD r n p d).2 - 1) by omega]
    · have c : p (n - (d + 1)) = false := by simpa using c
      have hD : prD r n p (d + 1) = prD r n p d := by rw [prD, c, if_neg (by decide)]
      have e := dr_f (L := List.range n) (b := p) hk0 hk (by rw [hg]; exact c)
      rw [hD, hs, e]
      exact ⟨h1, h2, h3, h4⟩
theorem prB_eq {ro : Nat → Int32} {n i : Nat} {x : Nat → Nat} (hinj : ∀ i j, i < n → j < n → x i = x j → i = j) (hi : i < n) : (couB (mle ro) (mgr ro) (mv ro i) && !(tolL ro (nI 15) (actL ro n)).any (fun j => decide (x j = x i))) = prB ro n i := by
  unfold prB
  congr 2
  rw [tol_15]
  rw [Bool.eq_iff_iff, List.any_eq_true]
  constructor
  · rintro ⟨j, hj, e⟩
    rw [List.mem_filter, List.mem_range] at hj
    rw [hinj j i hj.1 hi (of_decide_eq_true e)] at hj
    exact hj.2
  · intro h
    exact ⟨i, List.mem_filter.mpr ⟨List.mem_range.mpr hi, h⟩, decide_eq_true rfl⟩

set_option maxRecDepth 100000 in
set_option maxHeartbeats 4000000 in
theorem ct_X2_lambda_prunes_1 (l : Launch) (g : GT) (ro : Nat → Int32) (a : Nat) (x : Nat → Nat) (L : List Nat) (b : Nat) (f : Nat → Int32) (q : Nat) (hLn : L.length ≤ 40) : Ct l g yX2_lambda_prunes_1 cX2_lambda_prunes_1 3 (some .boolean) 13 1 3 [.ref a, .ref b, .ref q] (fun H => SdQ g ro a H ∧ OfQ g f q H ∧ BgQ g x L b H ∧ OfL g ro x L H) (PoB (couB (mle ro) (mgr ro) f && !L.any (fun j => decide (x j = q)))) := by
  refine Ct.ofN (by decide) (Nat.le_of_ble_eq_true rfl) ?_
  intro p e s m args below meth c X hnm hP ls hl
  have hx := X.1
  have hb := X.2.1
  have hKV := X.2.2.2.2.2.2.2.1.1
  have hL : ∀ q ∈ ([] : List Loc), gLo g ≤ q.base := fun _ h => by cases h
  obtain ⟨⟨sb, sd, PS, v1, v2, ob, hsd⟩, hq, ⟨PB, hbg⟩, hof⟩ := hP
  obtain ⟨Iq, hqi⟩ := id hq
  have hl : lv_has ls 3 [(0, .ref a), (1, .ref b), (2, .ref q)] := hl
  refine lv_aload_n hx hb dX2_lambda_prunes_1_0 rfl (lv_at hl 0 rfl) ?_
  refine r_get (C := RX2) (T := TX2) (N := 4) (ci := 2) X in_X2 rfl 1 (Nat.le_of_ble_eq_true rfl) q212 (fun _ h => h) ob rfl dX2_lambda_prunes_1_1 ?_
  refine lv_aload_n hx hb dX2_lambda_prunes_1_4 rfl (lv_at hl 2 rfl) ?_
  refine Cp.callV (v := .int (bI (couB (mle ro) (mgr ro) f))) (ct_X4_counts l g PS ro sd Iq f q ) X hL hl vb_X4_counts q534 (hsd.recv hKV) rfl rfl (Nat.le_of_ble_eq_true rfl) dX2_lambda_prunes_1_5 ⟨Nat.le_of_ble_eq_true rfl, Nat.le_of_ble_eq_true rfl⟩ (by omega) (by omega) ⟨hsd, hqi⟩ (fun locs hL => ?_)
  refine b_ifeq (tgt := 28) X dX2_lambda_prunes_1_8 (by decide) (fun c_8 => ?_) (fun c_8 => ?_)
  ·
    refine lv_iconst (v := nI 0) hx hb dX2_lambda_prunes_1_28 (by decide) ?_
    exact r_iret X hL rfl rfl dX2_lambda_prunes_1_29 (by omega) (by omega) ⟨v_f (by rw [c_8]; rfl), Ext.rfl'⟩
  ·
    refine lv_aload_n hx hb dX2_lambda_prunes_1_11 rfl (lv_at hl 1 rfl) ?_
    refine lv_aload_n hx hb dX2_lambda_prunes_1_12 rfl (lv_at hl 2 rfl) ?_
    obtain ⟨b1, hb1⟩ : ∃ b, s.heap.size = b := ⟨_, rfl⟩
    have sz_b1 : s.heap.size ≤ b1 := by rw [← hb1]; exact Nat.le_refl _
    have lo_b1 : gLo g ≤ b1 := Nat.le_trans X.2.2.2.2.2.2.2.1.2.1 sz_b1
    have ne_a_b1 : a ≠ b1 := Nat.ne_of_lt (by rw [← hb1]; exact ob.lt)
    refine r_indy (k := 3) (σ := lm3s) X hnm hl lm3q [.ref q] [.object "OfferSky$Offer"] (lm3 hKV X.2.2.2.2.1).1.2 rfl rfl rfl (by intro i t v h1 h2; rcases i with _ | _ | _ | i <;> simp at h1 h2 <;> (try (subst h1; subst h2; rfl))) rfl (Nat.le_of_ble_eq_true rfl) (by show _ + 1 ≤ 1; omega) (by show _ + 1 ≤ 3; omega) dX2_lambda_prunes_1_13 (fun H ha_b1 hE_b1 hz_b1 => ?_)
    rw [hb1] at ha_b1 hz_b1 ⊢
    have ob := ob.ext hE_b1
    have hsd := hsd.ext hE_b1
    have hq := hq.ext hE_b1
    have hbg := hbg.ext hE_b1
    have hof := hof.ext hE_b1
    rw [show ([.ref q] : List Value).length = 1 from rfl]
    refine Ct.callV (ct_X3_hasOne l g PB x L b b1 (fun j => decide (x j = q)) hLn) X hL hl vb_X3_hasOne q600 (hbg.recv hKV) rfl rfl (Nat.le_of_ble_eq_true rfl) dX2_lambda_prunes_1_18 ⟨Nat.le_of_ble_eq_true rfl, Nat.le_of_ble_eq_true rfl⟩ (by omega) (by omega) ⟨hbg, hof.el, fun i hi H1 hE1 => ru_3 (ha_b1.ext hE1) ((hof i hi).ext hE1)⟩ (fun r H locs hL hp => ?_)
    obtain ⟨rfl, hE2⟩ := hp
    refine b_ifne (tgt := 28) X dX2_lambda_prunes_1_21 (by decide) (fun c_21 => ?_) (fun c_21 => ?_)
    ·
      refine lv_iconst (v := nI 0) hx hb dX2_lambda_prunes_1_28 (by decide) ?_
      exact r_iret X hL rfl rfl dX2_lambda_prunes_1_29 (by omega) (by omega) ⟨v_f (by rw [c_21, Bool.not_true, Bool.and_false]), hE_b1.trans hE2⟩
    ·
      refine lv_iconst (v := nI 1) hx hb dX2_lambda_prunes_1_24 (by decide) ?_
      refine lv_goto (tgt := 29) hx hb dX2_lambda_prunes_1_25 (by decide) ?_
      exact r_iret X hL rfl rfl dX2_lambda_prunes_1_29 (by omega) (by omega) ⟨v_t (by rw [c_8, c_21]; rfl), hE_b1.trans hE2⟩
theorem vb_X2_lambda_prunes_1 : VB yX2_lambda_prunes_1 cX2_lambda_prunes_1 3 (some .boolean) 2 := ⟨q596, qs9, q100, q597, ⟨by decide, by decide, by decide +kernel⟩⟩

theorem ru_2 {l : Launch} {g : GT} {la : Nat} {ro : Nat → Int32} {a : Nat} {x : Nat → Nat} {L : List Nat} {b : Nat} {f : Nat → Int32} {q : Nat} {H : Heap} (hlo : Lo g la 2 [.ref a, .ref b] H) (hLn : L.length ≤ 40) (hs : SdQ g ro a H) (hq : OfQ g f q H) (hb : BgQ g x L b H) (ho : OfL g ro x L H) : LamRun l g xCh la [.ref q] 16 1 3 H (PoB (couB (mle ro) (mgr ro) f && !L.any (fun j => decide (x j = q)))) := by
  obtain ⟨fs0, hob0⟩ := hs.ob
  obtain ⟨fq, hoq⟩ := hq.ob
  exact (lmr_P2V (fun U A hK hw => ⟨(lm2 hK hw).1.1, (lm2 hK hw).2⟩) (fun U A hK hw => LmC.of hK lm2q (Or.inl rfl) rfl rfl (by decide +kernel) (lm2 hK hw).1.1) (fun U A hK hw => (lm2 hK hw).1.1) lm2d0 lm2d1 lm2d4 lm2d5 lm2d8 lm2d9 lm2d12 lm2d15 (ct_X2_lambda_prunes_1 l g ro a x L b f q hLn) vb_X2_lambda_prunes_1 (by decide) hlo hob0 rfl hoq ⟨hs, hq, hb, ho⟩).mono (by decide) (by decide) (by decide)

theorem pr_run {l : Launch} {g : GT} {Q J SS Pt : Nat → Prop} {ro : Nat → Int32} {n la a b sd tb : Nat} {x : Nat → Nat} {T : List Nat} {v1 v2 : Value} {H : Heap} (hlo : Lo g la 2 [.ref a, .ref tb] H) (n1 : ¬ Q la) (ob : Ob g a 2 [.ref b, .ref sd, v1, v2] H) (n2 : ¬ Q a) (hsd : SidR g SS ro sd H) (n3 : ∀ q, SS q → ¬ Q q) (hofs : ∀ j, j < n → OffR g J (mv ro j) (x j) H) (n4 : ∀ q, J q → ¬ Q q) (htb : BagR g Pt (XL x T) T.length tb H) (n5 : ∀ q, Pt q → ¬ Q q) (nE : ¬ Q (gE g)) (hT : T.length ≤ 40) (hTn : ∀ i, i ∈ T → i < n) : ∀ i, i ∈ List.range n → ∀ H1, Chg Q H H1 → LamRun l g xCh la [.ref (x i)] 16 1 3 H1 (PoB (couB (mle ro) (mgr ro) (mv ro i) && !T.any (fun j => decide (x j = x i)))) := fun i hi H1 hC =>
  ru_2 (hlo.chg hC n1) hT ⟨b, sd, SS, _, _, ob.chg hC n2, hsd.keep hC n3⟩ ⟨J, (hofs i (List.mem_range.mp hi)).keep hC n4⟩ ⟨Pt, htb.keep hC n5 nE⟩ (fun j hj => ⟨J, (hofs j (hTn j hj)).keep hC n4⟩)

theorem xl_inj {x : Nat → Nat} {n : Nat} (p : Nat → Bool) (h : ∀ i j, i < n → j < n → x i = x j → i = j) : ∀ i j, i < ((List.range n).filter p).length → j < ((List.range n).filter p).length → XL x ((List.range n).filter p) i = XL x ((List.range n).filter p) j → i = j := fun i j hi hj e => by
  have hd : ((List.range n).filter p).Nodup := List.Nodup.sublist (List.filter_sublist) List.nodup_range
  unfold XL at e
  have m : ∀ k, k < ((List.range n).filter p).length → ((List.range n).filter p).getD k 0 < n := fun k hk => List.mem_range.mp (List.mem_filter.mp (getD_mem hk)).1
  have e := h _ _ (m i hi) (m j hj) e
  rw [getD_at hi, getD_at hj] at e
  exact (List.getElem_inj hd).mp e

set_option maxRecDepth 100000 in
set_option maxHeartbeats 4000000 in
theorem ct_X2_prunes (l : Launch) (g : GT) (P I : Nat → Prop) (ro : Nat → Int32) (n : Nat) (x : Nat → Nat) (a : Nat) (hI : ∀ q, I q → ¬ P q) (hE0 : ¬ P (gE g)) (hw : WO (mw ro)) : Ct l g yX2_prunes cX2_prunes 3 (some .int) 19 60 420 [.ref a] (fun H => StR g P I ro n x a H ∧ ∀ q, H.size ≤ q → P q) (fun r H H1 => r = some (.int (nI (n - (prD ro n (prB ro n) n).2))) ∧ StR g P I (prD ro n (prB ro n) n).1 (prD ro n (prB ro n) n).2 (XL x ((List.range n).filter (fun i => !prB ro n i))) a H1 ∧ Chg P H H1) := by
  refine Ct.ofN (by decide) (Nat.le_of_ble_eq_true rfl) ?_
  intro p e s m args below meth c X hnm hP ls hl
  have hx := X.1
  have hb := X.2.1
  have hKV := X.2.2.2.2.2.2.2.1.1
  have hL : ∀ q ∈ ([] : List Loc), gLo g ≤ q.base := fun _ h => by cases h
  obtain ⟨hst, hPn⟩ := hP
  have hstq := hst.q
  obtain ⟨b, sd, SS, hPa, loa, hSa, hSP, ob, hbg, hsd, hofs, hinj, h160, hn⟩ := hst
  have hl : lv_has ls 3 [(0, .ref a)] := hl
  have hE : Ext s.heap s.heap := Ext.rfl'
  have hC : Chg P s.heap s.heap := Chg.rfl'
  have hal := ob.lt
  have hbg := hbg.bnd
  have hofs := fun j hj => (hofs j hj).bnd
  have hof : OfL g ro x (List.range n) s.heap := fun i hi => ⟨_, hofs i (List.mem_range.mp hi)⟩
  have hla : (actL ro n).length ≤ 40 := act_len hn
  have hta : (tolL ro (nI 15) (actL ro n)).length ≤ 40 := Nat.le_trans (List.length_filter_le _ _) hla
  have hgE := hKV.gE
  have hfl : ((List.range n).filter (fun i => !(couB (mle ro) (mgr ro) (mv ro i) && !(tolL ro (nI 15) (actL ro n)).any (fun j => decide (x j = x i))))) = ((List.range n).filter (fun i => !prB ro n i)) := List.filter_congr (fun i hi => by rw [prB_eq hinj (List.mem_range.mp hi)])
  obtain ⟨p1, p2, p3, p4⟩ := prD_row (r := ro) (prB ro n) hn n (Nat.le_refl n)
  rw [Nat.sub_self, drL_0] at p1 p2
  have hrl := rng_len n
  have hla2 : (actL ro n).length ≤ n := Nat.le_trans (List.length_filter_le _ _) (by rw [rng_len]; exact Nat.le_refl _)
  refine lv_aload_n hx hb dX2_prunes_0 rfl (lv_at hl 0 rfl) ?_
  refine lv_aload_n hx hb dX2_prunes_1 rfl (lv_at hl 0 rfl) ?_
  refine Ct.callV (ct_X2_active l g ro n x a hn) X hL hl vb_X2_active q527 (ob.recv hKV rfl) rfl rfl (Nat.le_of_ble_eq_true rfl) dX2_prunes_2 ⟨Nat.le_of_ble_eq_true rfl, Nat.le_of_ble_eq_true rfl⟩ (by omega) (by omega) hstq (fun r H locs hL hp => ?_)
  obtain ⟨bb, hbb, rfl, hE1⟩ := hp
  have ob := ob.ext hE1
  have hstq := hstq.ext hE1
  have hof := hof.ext hE1
  have hbg := hbg.ext hE1
  have hsd := hsd.ext hE1
  have hofs := fun j hj => (hofs j hj).ext hE1
  have hE := hE.trans hE1
  have hC := hC.trans hE1.chg
  refine Ct.callV (ct_X2_told l g ro x a (actL ro n) bb hw hla) X hL hl vb_X2_told q553 (ob.recv hKV rfl) rfl rfl (Nat.le_of_ble_eq_true rfl) dX2_prunes_5 ⟨Nat.le_of_ble_eq_true rfl, Nat.le_of_ble_eq_true rfl⟩ (by omega) (by omega) ⟨hstq.sd, ⟨_, hbb⟩, hof.sub (fun i hi => act_in hi)⟩ (fun r H locs hL hp => ?_)
  have hzE := hE.1
  obtain ⟨tb, htb, rfl, hE1⟩ := hp
  have htb := htb.bnd
  have ob := ob.ext hE1
  have hstq := hstq.ext hE1
  have hof := hof.ext hE1
  have hbg := hbg.ext hE1
  have hsd := hsd.ext hE1
  have hofs := fun j hj => (hofs j hj).ext hE1
  have hE := hE.trans hE1
  have hC := hC.trans hE1.chg
  have htb := htb.to (Q := fun q => s.heap.size ≤ q ∧ q < H.size) (fun _ _ => rfl) (fun q hq => ⟨Nat.le_trans hzE hq.1, hq.2⟩)
  obtain ⟨zt, hzt⟩ : ∃ z, H.size = z := ⟨_, rfl⟩
  rw [hzt] at htb
  refine lv_astore_n (lv' := [(1, .ref _), (0, .ref _)]) hx hb dX2_prunes_8 rfl hl (by decide) rfl (fun ls hl => ?_)
  refine lv_aload_n hx hb dX2_prunes_9 rfl (lv_at hl 1 rfl) ?_
  refine r_get (C := RX2) (T := TX2) (N := 4) (ci := 2) X in_X2 rfl 0 (Nat.le_of_ble_eq_true rfl) q210 (fun _ h => h) ob rfl dX2_prunes_10 ?_
  refine lv_aload_n hx hb dX2_prunes_13 rfl (lv_at hl 1 rfl) ?_
  refine lv_aload_n hx hb dX2_prunes_14 rfl (lv_at hl 0 rfl) ?_
  obtain ⟨b1, hb1⟩ : ∃ b, H.size = b := ⟨_, rfl⟩
  have sz_b1 : s.heap.size ≤ b1 := by rw [← hb1]; exact hE.1
  have lo_b1 : gLo g ≤ b1 := Nat.le_trans X.2.2.2.2.2.2.2.1.2.1 sz_b1
  have ne_a_b1 : a ≠ b1 := Nat.ne_of_lt (by rw [← hb1]; exact ob.lt)
  refine r_indy (k := 2) (σ := lm2s) X hnm hl lm2q [.ref a, .ref tb] [.object "OfferSky$State", .object "OfferSky$Bag"] (lm2 hKV X.2.2.2.2.1).1.2 rfl rfl rfl (by intro i t v h1 h2; rcases i with _ | _ | _ | i <;> simp at h1 h2 <;> (try (subst h1; subst h2; rfl))) rfl (Nat.le_of_ble_eq_true rfl) (by show _ + 1 ≤ 60; omega) (by show _ + 2 ≤ 420; omega) dX2_prunes_15 (fun H ha_b1 hE_b1 hz_b1 => ?_)
  rw [hb1] at ha_b1 hz_b1 ⊢
  have ob := ob.ext hE_b1
  have hC := hC.trans hE_b1.chg
  rw [show ([.ref a, .ref tb] : List Value).length = 2 from rfl]
  have htb := htb.ext hE_b1
  have hbg := hbg.ext hE_b1
  have hsd := hsd.ext hE_b1
  have hof := hof.ext hE_b1
  have hbz := hz_b1
  have hofs := fun j hj => (hofs j hj).ext hE_b1
  have hE := hE.trans hE_b1
  have hb1l := ha_b1.lt
  have hzs := hE.1
  obtain ⟨z, hz⟩ : ∃ z, H.size = z := ⟨_, rfl⟩
  have hbgd : BagR g (fun q => ((fun q => P q ∧ q ≠ a ∧ ¬ SS q) q ∧ q < s.heap.size) ∨ z ≤ q) (XL x (List.range n)) (List.range n).length b H := by rw [rng_len]; exact hbg.to (fun j hj => by unfold XL; rw [rng_get hj]) (fun q hq => Or.inl hq)
  have hna : ¬ (fun q => ((fun q => P q ∧ q ≠ a ∧ ¬ SS q) q ∧ q < s.heap.size) ∨ z ≤ q) a := fun q => q.elim (fun y => y.1.2.1 rfl) (fun y => by omega)
  have hnl : ¬ (fun q => ((fun q => P q ∧ q ≠ a ∧ ¬ SS q) q ∧ q < s.heap.size) ∨ z ≤ q) b1 := fun q => q.elim (fun y => by have := y.2; omega) (fun y => by omega)
  have hnS : ∀ q, SS q → ¬ (fun q => ((fun q => P q ∧ q ≠ a ∧ ¬ SS q) q ∧ q < s.heap.size) ∨ z ≤ q) q := fun q hq y => y.elim (fun y => y.1.2.2 hq) (fun y => by have := (hSP q hq).2; omega)
  have hnI : ∀ q, (I q ∧ q < s.heap.size) → ¬ (fun q => ((fun q => P q ∧ q ≠ a ∧ ¬ SS q) q ∧ q < s.heap.size) ∨ z ≤ q) q := fun q hq y => y.elim (fun y => hI q hq.1 y.1.1) (fun y => by have := hq.2; omega)
  have hnT : ∀ q, (s.heap.size ≤ q ∧ q < zt) → ¬ (fun q => ((fun q => P q ∧ q ≠ a ∧ ¬ SS q) q ∧ q < s.heap.size) ∨ z ≤ q) q := fun q hq y => y.elim (fun y => by have := y.2; omega) (fun y => by have := hq.2; omega)
  have hnE : ¬ (fun q => ((fun q => P q ∧ q ≠ a ∧ ¬ SS q) q ∧ q < s.heap.size) ∨ z ≤ q) (gE g) := fun y => y.elim (fun y => hE0 y.1.1) (fun y => by omega)
  have hpd : ∀ q, (fun q => ((fun q => P q ∧ q ≠ a ∧ ¬ SS q) q ∧ q < s.heap.size) ∨ z ≤ q) q → (fun q => P q ∧ q ≠ a ∧ ¬ SS q) q := fun q y => y.elim (fun y => y.1) (fun y => ⟨hPn q (by omega), by omega, fun w => by have := (hSP q w).2; omega⟩)
  have hrun := pr_run (l := l) ha_b1 hnl ob hna hsd hnS hofs hnI htb hnT hnE hta (fun i hi => List.mem_range.mp (act_in (tol_in hi)))
  refine Ct.callV (ct_X3_dropsb l g (fun q => ((fun q => P q ∧ q ≠ a ∧ ¬ SS q) q ∧ q < s.heap.size) ∨ z ≤ q) x (List.range n) b b1 (fun i => couB (mle ro) (mgr ro) (mv ro i) && !(tolL ro (nI 15) (actL ro n)).any (fun j => decide (x j = x i))) (by rw [rng_len]; exact hn)) X hL hl vb_X3_drops q604 (hbg.recv hKV) rfl rfl (Nat.le_of_ble_eq_true rfl) dX2_prunes_20 ⟨Nat.le_of_ble_eq_true rfl, Nat.le_of_ble_eq_true rfl⟩ (by omega) (by omega) ⟨hbgd, hof.el, fun i hi => hnI _ (hofs i (List.mem_range.mp hi)).mem.1, fun q hq => Or.inr (by omega), hrun⟩ (fun r H locs hL hp => ?_)
  obtain ⟨hr, hbg, hC1⟩ := hp
  have hbg : BagR g (fun q => ((fun q => P q ∧ q ≠ a ∧ ¬ SS q) q ∧ q < s.heap.size) ∨ z ≤ q) (XL x ((List.range n).filter (fun i => !(couB (mle ro) (mgr ro) (mv ro i) && !(tolL ro (nI 15) (actL ro n)).any (fun j => decide (x j = x i)))))) ((List.range n).filter (fun i => !(couB (mle ro) (mgr ro) (mv ro i) && !(tolL ro (nI 15) (actL ro n)).any (fun j => decide (x j = x i))))).length b H := hbg
  rw [hfl, ← p1] at hbg
  have hr : r = some (.int (nI (n - (prD ro n (prB ro n) n).2))) := hr.trans (by show some (Value.int (nI ((List.range n).length - ((List.range n).filter (fun i => !(couB (mle ro) (mgr ro) (mv ro i) && !(tolL ro (nI 15) (actL ro n)).any (fun j => decide (x j = x i))))).length))) = _; rw [hfl, rng_len, ← p1])
  subst hr
  have ob := ob.chg hC1 hna
  have hsd := hsd.keep hC1 hnS
  have hC := hC.trans (hC1.mono (fun q hq => (hpd q hq).1))
  have hofs := fun j hj => (hofs j hj).keep hC1 hnI
  have hzh := hC1.1
  have hofs : ∀ j, j < (prD ro n (prB ro n) n).2 → OffR g I (mv (prD ro n (prB ro n) n).1 j) (XL x ((List.range n).filter (fun i => !prB ro n i)) j) H := fun j hj => (hofs _ (List.mem_range.mp (List.mem_filter.mp (getD_mem (by omega))).1)).to (fun q hq => (p2 j hj q hq).symm) (fun q y => y.1)
  refine lv_istore_n (lv' := [(2, .int _), (1, .ref _), (0, .ref _)]) hx hb dX2_prunes_23 rfl hl (by decide) rfl (fun ls hl => ?_)
  refine lv_aload_n hx hb dX2_prunes_24 rfl (lv_at hl 2 rfl) ?_
  refine lv_dup hx hb dX2_prunes_25 rfl ?_
  refine r_get (C := RX2) (T := TX2) (N := 4) (ci := 2) X in_X2 rfl 3 (Nat.le_of_ble_eq_true rfl) q216 (fun _ h => h) ob rfl dX2_prunes_26 ?_
  refine lv_iload_n hx hb dX2_prunes_29 rfl (lv_at hl 0 rfl) ?_
  refine lv_iadd hx hb dX2_prunes_30 ?_
  refine r_put (C := RX2) (T := TX2) (N := 4) (ci := 2) X in_X2 tyX2 tyX2_ok nmX2 rfl 3 (Nat.le_of_ble_eq_true rfl) q216 (fun _ h => h) rfl hL ob loa rfl rfl (Nat.le_of_ble_eq_true rfl) dX2_prunes_31 (fun H locs hL h1 h2 => ?_)
  have ob : Ob g a 2 [.ref b, .ref sd, .int (ro 177), .int ((ro 178) + (nI (n - (prD ro n (prB ro n) n).2)))] H := h1
  have hC := hC.trans (h2.chg hPa)
  have hsd := hsd.keep (Q := fun q => q = a) (h2.chg rfl) (fun q hq z => hSa (z ▸ hq))
  have hbg := (hbg.to (Q := (fun q => P q ∧ q ≠ a ∧ ¬ SS q)) (fun _ _ => rfl) hpd).keep (Q := fun q => q = a) (h2.chg rfl) (fun q hq z => hq.2.1 z) (fun z => by omega)
  have hofs := fun j hj => (hofs j hj).keep (P := fun q => q = a) (h2.chg rfl) (fun q hq z => hI q hq (z ▸ hPa))
  refine lv_iload_n hx hb dX2_prunes_34 rfl (lv_at hl 0 rfl) ?_
  exact r_iret X hL rfl rfl dX2_prunes_35 (by omega) (by omega) ⟨rfl, ⟨b, sd, SS, hPa, loa, hSa, fun q hq => ⟨(hSP q hq).1, Nat.lt_of_lt_of_le (hSP q hq).2 hC.1⟩, by rw [p3 177 (by omega) (by omega), p4]; exact ob, hbg, hsd.to (fun j h1 h2 => (p3 j h1 (by omega)).symm) (fun _ y _ => y), hofs, by rw [p1]; exact xl_inj _ hinj, prD_160 (prB ro n) h160 n, by have := (prD_b ro n (prB ro n) n (Nat.le_refl _)).2; omega⟩, hC⟩
theorem vb_X2_prunes : VB yX2_prunes cX2_prunes 3 (some .int) 0 := ⟨q524, q525, q100, q526, ⟨by decide, by decide, by decide +kernel⟩⟩
