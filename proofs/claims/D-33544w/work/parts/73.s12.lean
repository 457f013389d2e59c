/-! the state: layers -/
theorem ly_ex {r : Nat → Int32} {n w : Nat} (h : RO r n) : ∀ f k, k < n → w < LY r n k → 397 ≤ f + gsR r k → ∃ j, j < n ∧ LY r n j = w + 1
  | 0, k, hk, _, q => by have := gsR_le h hk; omega
  | f + 1, k, hk, hw, q => by
    have e := LY_is (w := w) h hk
    by_cases z : LY r n k = w + 1
    · exact ⟨k, hk, z⟩
    · rw [decide_eq_true hw, Bool.true_and, decide_eq_false z] at e
      have : ¬ ∀ j, j < n → (decide (LY r n j ≤ w) || !beatB r j k) = true := fun y => by rw [allB_iff.mpr y] at e; exact absurd e (by decide)
      obtain ⟨j, hj⟩ := Classical.not_forall.mp this
      have hj1 : j < n := Classical.byContradiction (fun y => hj (fun z => absurd z y))
      have hj2 : ¬ (decide (LY r n j ≤ w) || !beatB r j k) = true := fun y => hj (fun _ => y)
      rw [Bool.or_eq_true, decide_eq_true_eq, not_or, Bool.not_eq_true', Bool.not_eq_false] at hj2
      have := beat_gs h hj1 hk hj2.2
      exact ly_ex h f j hj1 (by omega) (by omega)
theorem ly_len {r : Nat → Int32} {n : Nat} (w : Nat) : (lyL r n w).length = (lyL r n (w + 1)).length + ((List.range n).filter (fun i => decide (LY r n i = w + 1))).length := by
  unfold lyL
  rw [range_filter, range_filter, range_filter]
  exact cnt_split (LY r n) w n
theorem ly_dec {r : Nat → Int32} {n w : Nat} (h : RO r n) (hp : 0 < (lyL r n w).length) : (lyL r n (w + 1)).length < (lyL r n w).length := by
  have hm : (lyL r n w)[0] ∈ lyL r n w := List.getElem_mem hp
  unfold lyL at hm
  rw [List.mem_filter, List.mem_range, decide_eq_true_eq] at hm
  obtain ⟨j, hj, e⟩ := ly_ex (w := w) h 400 _ hm.1 hm.2 (by omega)
  have : 0 < ((List.range n).filter (fun i => decide (LY r n i = w + 1))).length := by
    rw [range_filter]; exact cnt_gt (k := j) (by simp [e]) hj
  have := ly_len (r := r) (n := n) w
  omega
theorem ly_rng {r : Nat → Int32} {n w i : Nat} (h : i ∈ lyL r n w) : i ∈ List.range n := (List.mem_filter.mp h).1
theorem tp_rng {r : Nat → Int32} {n w i : Nat} (h : i ∈ (List.range n).filter (fun i => decide (LY r n i = w + 1))) : i ∈ List.range n := (List.mem_filter.mp h).1
/-- the layers as they stand after w rounds and k of the next -/
def lyF (r : Nat → Int32) (n w k j : Nat) : Nat := if LY r n j ≤ w then LY r n j else if j ∈ ((List.range n).filter (fun i => decide (LY r n i = w + 1))).take k then w + 1 else 0
theorem lyF_0 (r : Nat → Int32) (n w j : Nat) : lyF r n w 0 j = if LY r n j ≤ w then LY r n j else 0 := by unfold lyF; simp
theorem lyF_n (r : Nat → Int32) {n w j : Nat} (hj : j < n) : lyF r n w ((List.range n).filter (fun i => decide (LY r n i = w + 1))).length j = lyF r n (w + 1) 0 j := by
  rw [lyF_0]; unfold lyF
  rw [List.take_length]
  have hme : j ∈ (List.range n).filter (fun i => decide (LY r n i = w + 1)) ↔ LY r n j = w + 1 := by
    rw [List.mem_filter, List.mem_range, decide_eq_true_eq]; exact ⟨fun z => z.2, fun z => ⟨hj, z⟩⟩
  by_cases a : LY r n j ≤ w
  · rw [if_pos a, if_pos (by omega)]
  · rw [if_neg a]
    by_cases b : LY r n j = w + 1
    · rw [if_pos (hme.mpr b), if_pos (by omega), b]
    · rw [if_neg (fun z => b (hme.mp z)), if_neg (by omega)]
theorem ly_0 {r : Nat → Int32} {n w : Nat} (h : (lyL r n w).length = 0) : ∀ j, j < n → LY r n j ≤ w := fun j hj => by
  refine Nat.le_of_not_lt (fun z => ?_)
  have hm : j ∈ lyL r n w := by unfold lyL; rw [List.mem_filter, List.mem_range, decide_eq_true_eq]; exact ⟨hj, z⟩
  rw [List.eq_nil_of_length_eq_zero h] at hm
  cases hm
theorem lyF_00 (r : Nat → Int32) (n j : Nat) : lyF r n 0 0 j = 0 := by
  rw [lyF_0]; split
  · rename_i z; exact Nat.le_zero.mp z
  · rfl
theorem lyF_s {r : Nat → Int32} {n w k : Nat} (hk : k < ((List.range n).filter (fun i => decide (LY r n i = w + 1))).length) {f : Nat → Int32} (h : ∀ j, j < n → f j = nI (lyF r n w k j)) : ∀ j, j < n → upd f (((List.range n).filter (fun i => decide (LY r n i = w + 1))).getD k 0) (nI (w + 1)) j = nI (lyF r n w (k + 1) j) := fun j hj => by
  have hm := (List.mem_filter.mp (getD_mem hk)).2
  generalize hT : (List.range n).filter (fun i => decide (LY r n i = w + 1)) = T at *
  rw [decide_eq_true_eq] at hm
  by_cases e : j = T.getD k 0
  · rw [e, pk_us]
    unfold lyF
    rw [if_neg (by omega), hT, take_app hk, if_pos (by simp)]
  · rw [pk_un e, h j hj]
    unfold lyF
    rw [hT, take_app hk]
    congr 1
    by_cases a : LY r n j ≤ w
    · rw [if_pos a, if_pos a]
    · rw [if_neg a, if_neg a]
      have : (j ∈ T.take k ++ [T.getD k 0]) = (j ∈ T.take k) := by
        rw [List.mem_append, List.mem_singleton]; exact propext ⟨fun z => z.resolve_right e, Or.inl⟩
      simp only [this]
theorem top_any {x : Nat → Nat} {n i : Nat} {T : List Nat} (hinj : ∀ i j, i < n → j < n → x i = x j → i = j) (hT : ∀ j, j ∈ T → j ∈ List.range n) (hi : i < n) : T.any (fun j => decide (x j = x i)) = T.any (fun j => j == i) := by
  rw [Bool.eq_iff_iff, List.any_eq_true, List.any_eq_true]
  constructor
  · rintro ⟨j, hj, e⟩
    exact ⟨j, hj, by rw [hinj j i (List.mem_range.mp (hT j hj)) hi (of_decide_eq_true e)]; exact beq_self_eq_true _⟩
  · rintro ⟨j, hj, e⟩
    exact ⟨j, hj, by rw [beq_iff_eq.mp e]; exact decide_eq_true rfl⟩

set_option maxRecDepth 100000 in
set_option maxHeartbeats 4000000 in
theorem ct_X2_lambda_peeled_9 (l : Launch) (g : GT) (ro : Nat → Int32) (x : Nat → Nat) (L : List Nat) (b q : Nat) (f : Nat → Int32) (hLn : L.length ≤ 40) : Ct l g yX2_lambda_peeled_9 cX2_lambda_peeled_9 2 (some .boolean) 13 1 3 [.ref b, .ref q] (fun H => BgQ g x L b H ∧ OfL g ro x L H ∧ OfQ g f q H) (PoB (!L.any (fun j => decide (x j = q)))) := by
  refine Ct.ofN (by decide) (Nat.le_of_ble_eq_true rfl) ?_
  intro p e s m args below meth c X hnm hP ls hl
  have hx := X.1
  have hb := X.2.1
  have hKV := X.2.2.2.2.2.2.2.1.1
  have hL : ∀ q ∈ ([] : List Loc), gLo g ≤ q.base := fun _ h => by cases h
  obtain ⟨⟨PB, hbg⟩, hof, hq⟩ := hP
  have hl : lv_has ls 2 [(0, .ref b), (1, .ref q)] := hl
  refine lv_aload_n hx hb dX2_lambda_peeled_9_0 rfl (lv_at hl 0 rfl) ?_
  refine lv_aload_n hx hb dX2_lambda_peeled_9_1 rfl (lv_at hl 1 rfl) ?_
  obtain ⟨b1, hb1⟩ : ∃ b, s.heap.size = b := ⟨_, rfl⟩
  have sz_b1 : s.heap.size ≤ b1 := by rw [← hb1]; exact Nat.le_refl _
  have lo_b1 : gLo g ≤ b1 := Nat.le_trans X.2.2.2.2.2.2.2.1.2.1 sz_b1
  refine r_indy (k := 6) (σ := lm6s) X hnm hl lm6q [.ref q] [.object "OfferSky$Offer"] (lm6 hKV X.2.2.2.2.1).1.2 rfl rfl rfl (by intro i t v h1 h2; rcases i with _ | _ | _ | i <;> simp at h1 h2 <;> (try (subst h1; subst h2; rfl))) rfl (Nat.le_of_ble_eq_true rfl) (by show _ + 1 ≤ 1; omega) (by show _ + 1 ≤ 3; omega) dX2_lambda_peeled_9_2 (fun H ha_b1 hE_b1 hz_b1 => ?_)
  rw [hb1] at ha_b1 hz_b1 ⊢
  have hbg := hbg.ext hE_b1
  have hof := hof.ext hE_b1
  have hq := hq.ext hE_b1
  rw [show ([.ref q] : List Value).length = 1 from rfl]
  refine Ct.callV (ct_X3_hasOne l g PB x L b b1 (fun j => decide (x j = q)) hLn) X hL hl vb_X3_hasOne q600 (hbg.recv hKV) rfl rfl (Nat.le_of_ble_eq_true rfl) dX2_lambda_peeled_9_7 ⟨Nat.le_of_ble_eq_true rfl, Nat.le_of_ble_eq_true rfl⟩ (by omega) (by omega) ⟨hbg, hof.el, fun i hi H1 hE1 => ru_6 (ha_b1.ext hE1) ((hof i hi).ext hE1)⟩ (fun r H locs hL hp => ?_)
  obtain ⟨rfl, hE2⟩ := hp
  refine b_ifne (tgt := 17) X dX2_lambda_peeled_9_10 (by decide) (fun c_10 => ?_) (fun c_10 => ?_)
  ·
    refine lv_iconst (v := nI 0) hx hb dX2_lambda_peeled_9_17 (by decide) ?_
    exact r_iret X hL rfl rfl dX2_lambda_peeled_9_18 (by omega) (by omega) ⟨v_f (by rw [c_10]; rfl), hE_b1.trans hE2⟩
  ·
    refine lv_iconst (v := nI 1) hx hb dX2_lambda_peeled_9_13 (by decide) ?_
    refine lv_goto (tgt := 18) hx hb dX2_lambda_peeled_9_14 (by decide) ?_
    exact r_iret X hL rfl rfl dX2_lambda_peeled_9_18 (by omega) (by omega) ⟨v_t (by rw [c_10]; rfl), hE_b1.trans hE2⟩
theorem sb_X2_lambda_peeled_9 : SB yX2_lambda_peeled_9 cX2_lambda_peeled_9 2 (some .boolean) 2 := ⟨q1077, q100, q1078, ⟨by decide, by decide, by decide +kernel⟩⟩

theorem ru_5 {l : Launch} {g : GT} {la : Nat} {ro : Nat → Int32} {x : Nat → Nat} {L : List Nat} {b q : Nat} {f : Nat → Int32} {H : Heap} (hlo : Lo g la 5 [.ref b] H) (hLn : L.length ≤ 40) (hb : BgQ g x L b H) (ho : OfL g ro x L H) (hq : OfQ g f q H) : LamRun l g xCh la [.ref q] 16 1 3 H (PoB (!L.any (fun j => decide (x j = q)))) := by
  obtain ⟨fq, hoq⟩ := hq.ob
  exact (lmr_P1S (fun U A hK hw => ⟨(lm5 hK hw).1.1, (lm5 hK hw).2⟩) (fun U A hK hw => LmC.of hK lm5q (Or.inl rfl) rfl rfl (by decide +kernel) (lm5 hK hw).1.1) (fun U A hK hw => (lm5 hK hw).1.1) lm5d0 lm5d1 lm5d4 lm5d5 lm5d8 lm5d11 (ct_X2_lambda_peeled_9 l g ro x L b q f hLn) sb_X2_lambda_peeled_9 (by decide) hlo hoq ⟨hb, ho, hq⟩).mono (by decide) (by decide) (by decide)

set_option maxRecDepth 100000 in
set_option maxHeartbeats 4000000 in
theorem ct_X2_peeled (l : Launch) (g : GT) (ro : Nat → Int32) (n : Nat) (x : Nat → Nat) (a : Nat) (hn : n ≤ 40) (hw : WO (mw ro)) (hR : RO ro n) : Ct l g yX2_peeled cX2_peeled 6 (some (.array .int)) 19 2500 17000 [.ref a] (fun H => StQ g ro n x a H) (fun r H H1 => ∃ (lb : Nat) (f : Nat → Int32), (Ar g lb 0 n f H1 ∧ H.size ≤ lb ∧ ∀ j, j < n → f j = nI (LY ro n j)) ∧ r = some (.ref lb) ∧ Ext H H1) := by
  refine Ct.ofN (by decide) (Nat.le_of_ble_eq_true rfl) ?_
  intro p e s m args below meth c X hnm hP ls hl
  have hx := X.1
  have hb := X.2.1
  have hKV := X.2.2.2.2.2.2.2.1.1
  have hL : ∀ q ∈ ([] : List Loc), gLo g ≤ q.base := fun _ h => by cases h
  have hst := hP
  have hst9 := hst
  obtain ⟨sb, sd, PB, PS, ob, hbg, hsd, hof, hinj⟩ := hst9
  have hl : lv_has ls 6 [(0, .ref a)] := hl
  have hrl : (List.range n).length ≤ 40 := by rw [rng_len]; exact hn
  have hE : Ext s.heap s.heap := Ext.rfl'
  have ob0 := ob
  have hst0 := hst
  have hof0 := hof
  have hbg0 := hbg
  have hsd0 := hsd
  refine lv_aload_n hx hb dX2_peeled_0 rfl (lv_at hl 0 rfl) ?_
  refine r_get (C := RX2) (T := TX2) (N := 4) (ci := 2) X in_X2 rfl 0 (Nat.le_of_ble_eq_true rfl) q210 (fun _ h => h) ob rfl dX2_peeled_1 ?_
  refine Cp.callV (v := .int (nI ((List.range n).length))) (ct_X3_size l g PB (XL x (List.range n)) ((List.range n).length) sb ) X hL hl vb_X3_size q564 (hbg.recv hKV) rfl rfl (Nat.le_of_ble_eq_true rfl) dX2_peeled_4 ⟨Nat.le_of_ble_eq_true rfl, Nat.le_of_ble_eq_true rfl⟩ (by omega) (by omega) hbg (fun locs hL => ?_)
  rw [rng_len]
  obtain ⟨b1, hb1⟩ : ∃ b, s.heap.size = b := ⟨_, rfl⟩
  have sz_b1 : s.heap.size ≤ b1 := by rw [← hb1]; exact Nat.le_refl _
  have lo_b1 : gLo g ≤ b1 := Nat.le_trans X.2.2.2.2.2.2.2.1.2.1 sz_b1
  have ne_a_b1 : a ≠ b1 := Nat.ne_of_lt (by rw [← hb1]; exact ob.lt)
  refine r_newa (atype := .int) (k := 0) (ty := .int) X q209 rfl rfl (fun _ _ => rfl) (x := (nI n)) (N' := n) (n, .inl (fun _ => 0)) (fun _ => rfl) (nI_pos (by omega)) (nI_clamp (by omega)) (by show n * 4 ≤ 536870912; omega) (by show _ + 1 ≤ 2500; omega) (by show _ + n ≤ 17000; omega) dX2_peeled_7 (fun H ha_b1 hE_b1 hz_b1 => ?_)
  rw [hb1] at ha_b1 hz_b1 ⊢
  have ob := ob.ext hE_b1
  have hbg := hbg.ext hE_b1
  have hst := hst.ext hE_b1
  have hof := hof.ext hE_b1
  have hsd := hsd.ext hE_b1
  have ha_b1 : Ar g b1 0 n (fun _ => 0) H := ha_b1
  have hE := hE.trans hE_b1
  refine lv_astore_n (lv' := [(1, .ref _), (0, .ref _)]) hx hb dX2_peeled_9 rfl hl (by decide) rfl (fun ls hl => ?_)
  refine lv_aload_n hx hb dX2_peeled_10 rfl (lv_at hl 1 rfl) ?_
  have hbl1 := ha_b1.lt
  have hgE := hKV.gE
  refine Ct.callV (ct_X2_active l g ro n x a hn) X hL hl vb_X2_active q527 (hst.recv hKV) rfl rfl (Nat.le_of_ble_eq_true rfl) dX2_peeled_11 ⟨Nat.le_of_ble_eq_true rfl, Nat.le_of_ble_eq_true rfl⟩ (by omega) (by omega) hst (fun r H locs hL hp => ?_)
  obtain ⟨bb, hbb, rfl, hE1⟩ := hp
  have ob := ob.ext hE1
  have hst := hst.ext hE1
  have hof := hof.ext hE1
  have hbg := hbg.ext hE1
  have hsd := hsd.ext hE1
  have hE := hE.trans hE1
  have hqbb : BgQ g x (actL ro n) bb H := ⟨_, hbb⟩
  have hla : (actL ro n).length ≤ 40 := act_len hn
  have hofa : OfL g ro x (actL ro n) H := hof.sub (fun i hi => act_in hi)
  have ha_b1 := ha_b1.ext hE1
  refine lv_astore_n (lv' := [(2, .ref _), (1, .ref _), (0, .ref _)]) hx hb dX2_peeled_14 rfl hl (by decide) rfl (fun ls hl => ?_)
  refine lv_iconst (v := nI 0) hx hb dX2_peeled_15 (by decide) ?_
  refine lv_istore_n (lv' := [(3, .int _), (2, .ref _), (1, .ref _), (0, .ref _)]) hx hb dX2_peeled_16 rfl hl (by decide) rfl (fun ls hl => ?_)
  have L17 : ∀ (fuel : Nat) (w : Nat) (f : Nat → Int32) (lf : Nat), (lyL ro n w).length < fuel → (w + (lyL ro n w).length ≤ n) → (∀ j, j < n → f j = nI (lyF ro n w 0 j)) → ∀ (H : Heap), Ar g b1 0 n f H → Ext s.heap H → BagR g (fun q => b1 < q) (XL x (lyL ro n w)) (lyL ro n w).length lf H → ∀ (locs : List Loc), (∀ q ∈ locs, gLo g ≤ q.base) → ∀ (ls : Array Slot), lv_has ls 6 [(0, .ref a), (1, .ref b1), (2, .ref lf), (3, .int (nI w))] → W p l e (rmL 19 2500 17000) s m args below meth c H locs (10 + 58 * w) (190 + 403 * w) (MQ below (Qcg (fun r H H1 => ∃ (lb : Nat) (f : Nat → Int32), (Ar g lb 0 n f H1 ∧ H.size ≤ lb ∧ ∀ j, j < n → f j = nI (LY ro n j)) ∧ r = some (.ref lb) ∧ Ext H H1)) args s 2500 17000 (fre g)) (F0 m 17 ls []) := by
    intro fuel
    induction fuel with
    | zero => intro w f lf hfu; exact absurd hfu (Nat.not_lt_zero _)
    | succ fuel ih17 =>
      intro w f lf hfu hwl hf H ha_b1 hE hlf locs hL ls hl
      have ob := ob0.ext hE
      have hst := hst0.ext hE
      have hof := hof0.ext hE
      have hbg := hbg0.ext hE
      have hsd := hsd0.ext hE
      have hofl : OfL g ro x (lyL ro n w) H := hof.sub (fun i hi => ly_rng hi)
      refine lv_aload_n hx hb dX2_peeled_17 rfl (lv_at hl 2 rfl) ?_
      refine Cp.callV (v := .int (nI ((lyL ro n w).length))) (ct_X3_size l g (fun q => b1 < q) (XL x (lyL ro n w)) ((lyL ro n w).length) lf ) X hL hl vb_X3_size q564 (hlf.recv hKV) rfl rfl (Nat.le_of_ble_eq_true rfl) dX2_peeled_18 ⟨Nat.le_of_ble_eq_true rfl, Nat.le_of_ble_eq_true rfl⟩ (by omega) (by omega) hlf (fun locs hL => ?_)
      refine n_ifle (tgt := 85) X dX2_peeled_21 (by decide) (by omega) (fun c_21 => ?_) (fun c_21 => ?_)
      ·
        refine lv_aload_n hx hb dX2_peeled_85 rfl (lv_at hl 1 rfl) ?_
        exact r_aret X hL rfl (Or.inr ⟨_, rfl⟩) (Or.inr ⟨_, rfl⟩) dX2_peeled_86 (by omega) (by omega) ⟨b1, f, ⟨ha_b1, sz_b1, fun j hj => by rw [hf j hj, lyF_0, if_pos (ly_0 (by omega) j hj)]⟩, rfl, hE⟩
      ·
        refine lv_iinc (v := nI (w + 1)) (lv' := [(3, .int _), (0, .ref _), (1, .ref _), (2, .ref _)]) hx hb dX2_peeled_24 hl (k := 3) rfl (nI_iinc _ 1 rfl) (by decide) rfl (fun ls hl => ?_)
        refine lv_aload_n hx hb dX2_peeled_27 rfl (lv_at hl 1 rfl) ?_
        refine lv_aload_n hx hb dX2_peeled_28 rfl (lv_at hl 3 rfl) ?_
        have hdec := ly_dec hR (w := w) (by omega)
        have hll := ly_len (r := ro) (n := n) w
        have hbl2 := ha_b1.lt
        refine Ct.callV (ct_X2_told l g ro x a (lyL ro n w) lf hw (by omega)) X hL hl vb_X2_told q553 (hst.recv hKV) rfl rfl (Nat.le_of_ble_eq_true rfl) dX2_peeled_29 ⟨Nat.le_of_ble_eq_true rfl, Nat.le_of_ble_eq_true rfl⟩ (by omega) (by omega) ⟨hst.sd, ⟨_, hlf⟩, hofl⟩ (fun r H locs hL hp => ?_)
        obtain ⟨tb, htb, rfl, hE1⟩ := hp
        have ob := ob.ext hE1
        have hst := hst.ext hE1
        have hof := hof.ext hE1
        have hbg := hbg.ext hE1
        have hsd := hsd.ext hE1
        have ha_b1 := ha_b1.ext hE1
        have hlf := hlf.ext hE1
        have hE := hE.trans hE1
        rw [ly_top hR w] at htb
        have htb := htb.to (Q := (fun q => b1 < q)) (fun _ _ => rfl) (fun q hq => Nat.lt_of_lt_of_le hbl2 hq)
        refine lv_astore (lv' := [(4, .ref _), (3, .int _), (0, .ref _), (1, .ref _), (2, .ref _)]) hx hb dX2_peeled_32 hl (by decide) rfl (fun ls hl => ?_)
        refine lv_iconst (v := nI 0) hx hb dX2_peeled_34 (by decide) ?_
        refine lv_istore (lv' := [(5, .int _), (4, .ref _), (3, .int _), (0, .ref _), (1, .ref _), (2, .ref _)]) hx hb dX2_peeled_35 hl (by decide) rfl (fun ls hl => ?_)
        have L37 : ∀ (fuel : Nat) (k : Nat) (f2 : Nat → Int32), ((List.range n).filter (fun i => decide (LY ro n i = w + 1))).length - k < fuel → (k ≤ ((List.range n).filter (fun i => decide (LY ro n i = w + 1))).length) → (∀ j, j < n → f2 j = nI (lyF ro n w k j)) → ∀ (H : Heap), Ar g b1 0 n f2 H → Ext s.heap H → BagR g (fun q => b1 < q) (XL x (lyL ro n w)) (lyL ro n w).length lf H → BagR g (fun q => b1 < q) (XL x ((List.range n).filter (fun i => decide (LY ro n i = w + 1)))) ((List.range n).filter (fun i => decide (LY ro n i = w + 1))).length tb H → ∀ (locs : List Loc), (∀ q ∈ locs, gLo g ≤ q.base) → ∀ (ls : Array Slot), lv_has ls 6 [(0, .ref a), (1, .ref b1), (2, .ref lf), (3, .int (nI (w + 1))), (4, .ref tb), (5, .int (nI k))] → W p l e (rmL 19 2500 17000) s m args below meth c H locs (19 + 58 * w) (332 + 403 * w) (MQ below (Qcg (fun r H H1 => ∃ (lb : Nat) (f : Nat → Int32), (Ar g lb 0 n f H1 ∧ H.size ≤ lb ∧ ∀ j, j < n → f j = nI (LY ro n j)) ∧ r = some (.ref lb) ∧ Ext H H1)) args s 2500 17000 (fre g)) (F0 m 37 ls []) := by
          intro fuel
          induction fuel with
          | zero => intro k f2 hfu; exact absurd hfu (Nat.not_lt_zero _)
          | succ fuel ih37 =>
            intro k f2 hfu hk hf2 H ha_b1 hE hlf htb locs hL ls hl
            have ob := ob0.ext hE
            have hst := hst0.ext hE
            have hof := hof0.ext hE
            have hbg := hbg0.ext hE
            have hsd := hsd0.ext hE
            have hoft : OfL g ro x ((List.range n).filter (fun i => decide (LY ro n i = w + 1))) H := hof.sub (fun i hi => tp_rng hi)
            have hofl : OfL g ro x (lyL ro n w) H := hof.sub (fun i hi => ly_rng hi)
            refine lv_iload hx hb dX2_peeled_37 (lv_at hl 5 rfl) ?_
            refine lv_aload hx hb dX2_peeled_39 (lv_at hl 4 rfl) ?_
            refine Cp.callV (v := .int (nI (((List.range n).filter (fun i => decide (LY ro n i = w + 1))).length))) (ct_X3_size l g (fun q => b1 < q) (XL x ((List.range n).filter (fun i => decide (LY ro n i = w + 1)))) (((List.range n).filter (fun i => decide (LY ro n i = w + 1))).length) tb ) X hL hl vb_X3_size q564 (htb.recv hKV) rfl rfl (Nat.le_of_ble_eq_true rfl) dX2_peeled_41 ⟨Nat.le_of_ble_eq_true rfl, Nat.le_of_ble_eq_true rfl⟩ (by omega) (by omega) htb (fun locs hL => ?_)
            refine n_icmp_ge (tgt := 70) X dX2_peeled_44 (by decide) (by omega) (by omega) (fun c_44 => ?_) (fun c_44 => ?_)
            ·
              refine lv_aload_n hx hb dX2_peeled_70 rfl (lv_at hl 2 rfl) ?_
              refine lv_aload hx hb dX2_peeled_71 (lv_at hl 4 rfl) ?_
              have hbl2 := ha_b1.lt
              obtain ⟨b2, hb2⟩ : ∃ b, H.size = b := ⟨_, rfl⟩
              have sz_b2 : s.heap.size ≤ b2 := by rw [← hb2]; exact hE.1
              have lo_b2 : gLo g ≤ b2 := Nat.le_trans X.2.2.2.2.2.2.2.1.2.1 sz_b2
              have ne_a_b2 : a ≠ b2 := Nat.ne_of_lt (by rw [← hb2]; exact ob.lt)
              have ne_b1_b2 : b1 ≠ b2 := Nat.ne_of_lt (by rw [← hb2]; exact ha_b1.lt)
              refine r_indy (k := 5) (σ := lm5s) X hnm hl lm5q [.ref tb] [.object "OfferSky$Bag"] (lm5 hKV X.2.2.2.2.1).1.2 rfl rfl rfl (by intro i t v h1 h2; rcases i with _ | _ | _ | i <;> simp at h1 h2 <;> (try (subst h1; subst h2; rfl))) rfl (Nat.le_of_ble_eq_true rfl) (by show _ + 1 ≤ 2500; omega) (by show _ + 1 ≤ 17000; omega) dX2_peeled_73 (fun H ha_b2 hE_b2 hz_b2 => ?_)
              rw [hb2] at ha_b2 hz_b2 ⊢
              have ob := ob.ext hE_b2
              have ha_b1 := ha_b1.ext hE_b2
              have hbg := hbg.ext hE_b2
              have hst := hst.ext hE_b2
              have hof := hof.ext hE_b2
              have hsd := hsd.ext hE_b2
              rw [show ([.ref tb] : List Value).length = 1 from rfl]
              have hE := hE.trans hE_b2
              have hlf := hlf.ext hE_b2
              have htb := htb.ext hE_b2
              have hofl := hofl.ext hE_b2
              have hoft := hoft.ext hE_b2
              have hbl3 := ha_b1.lt
              refine Ct.callV (ct_X3_thoseb l g (fun q => b1 < q) x (lyL ro n w) lf b2 (fun i => !((List.range n).filter (fun i => decide (LY ro n i = w + 1))).any (fun j => decide (x j = x i))) (by omega)) X hL hl vb_X3_those q545 (hlf.recv hKV) rfl rfl (Nat.le_of_ble_eq_true rfl) dX2_peeled_78 ⟨Nat.le_of_ble_eq_true rfl, Nat.le_of_ble_eq_true rfl⟩ (by omega) (by omega) ⟨hlf, hofl.el, fun i hi H1 hE1 => ru_5 (ha_b2.ext hE1) (by omega) ⟨_, htb.ext hE1⟩ (hoft.ext hE1) ((hofl i hi).ext hE1)⟩ (fun r H locs hL hp => ?_)
              obtain ⟨lf2, hlf2, rfl, hE1⟩ := hp
              have hE := hE.trans hE1
              have ha_b1 := ha_b1.ext hE1
              have hnx : (lyL ro n w).filter (fun i => !((List.range n).filter (fun i => decide (LY ro n i = w + 1))).any (fun j => decide (x j = x i))) = lyL ro n (w + 1) := by rw [← ly_next hR w, ly_top hR w]; exact List.filter_congr (fun i hi => by rw [top_any hinj (fun j hj => tp_rng hj) (List.mem_range.mp (ly_rng hi))])
              rw [hnx] at hlf2
              have hlf2 := hlf2.to (Q := (fun q => b1 < q)) (fun _ _ => rfl) (fun q hq => Nat.lt_of_lt_of_le hbl3 hq)
              refine lv_astore_n (lv' := [(2, .ref _), (0, .ref _), (1, .ref _), (3, .int _), (4, .ref _), (5, .int _)]) hx hb dX2_peeled_81 rfl hl (by decide) rfl (fun ls hl => ?_)
              refine lv_goto (tgt := 17) hx hb dX2_peeled_82 (by decide) ?_
              exact W.widen (by omega) (by omega) (ih17 (w + 1) f2 lf2 (by omega) (by omega) (fun j hj => by rw [hf2 j hj, show k = ((List.range n).filter (fun i => decide (LY ro n i = w + 1))).length by omega, lyF_n ro hj]) _ ha_b1 hE hlf2 _ hL ls (lv_sub hl [1, 2, 0, 3] rfl))
            ·
              refine lv_aload_n hx hb dX2_peeled_47 rfl (lv_at hl 1 rfl) ?_
              refine lv_aload_n hx hb dX2_peeled_48 rfl (lv_at hl 0 rfl) ?_
              refine lv_aload hx hb dX2_peeled_49 (lv_at hl 4 rfl) ?_
              refine lv_iload hx hb dX2_peeled_51 (lv_at hl 5 rfl) ?_
              refine Cp.callV (v := .ref (x (((List.range n).filter (fun i => decide (LY ro n i = w + 1))).getD k 0))) (ct_X3_get l g (fun q => b1 < q) (XL x ((List.range n).filter (fun i => decide (LY ro n i = w + 1)))) (((List.range n).filter (fun i => decide (LY ro n i = w + 1))).length) tb k (by omega)) X hL hl vb_X3_get q568 (htb.recv hKV) rfl rfl (Nat.le_of_ble_eq_true rfl) dX2_peeled_53 ⟨Nat.le_of_ble_eq_true rfl, Nat.le_of_ble_eq_true rfl⟩ (by omega) (by omega) htb (fun locs hL => ?_)
              obtain ⟨fqk, oqk⟩ := (hoft _ (getD_mem (L := ((List.range n).filter (fun i => decide (LY ro n i = w + 1)))) (k := k) (by omega))).ob
              have hgk := List.mem_range.mp (tp_rng (getD_mem (L := ((List.range n).filter (fun i => decide (LY ro n i = w + 1)))) (k := k) (by omega)))
              refine r_cast (ci := 5) X rfl oqk q572 dX2_peeled_56 ?_
              refine Cp.callV (v := .int (nI (((List.range n).filter (fun i => decide (LY ro n i = w + 1))).getD k 0))) (ct_X2_numberOf l g ro n x a (((List.range n).filter (fun i => decide (LY ro n i = w + 1))).getD k 0) hn hgk) X hL hl vb_X2_numberOf q1073 (hst.recv hKV) rfl rfl (Nat.le_of_ble_eq_true rfl) dX2_peeled_59 ⟨Nat.le_of_ble_eq_true rfl, Nat.le_of_ble_eq_true rfl⟩ (by omega) (by omega) hst (fun locs hL => ?_)
              refine lv_iload_n hx hb dX2_peeled_62 rfl (lv_at hl 3 rfl) ?_
              refine r_ist X hL ha_b1 lo_b1 (((List.range n).filter (fun i => decide (LY ro n i = w + 1))).getD k 0) (nI_cl (by omega) rfl) (nI_nn (by omega) rfl) (by omega) dX2_peeled_63 (fun H locs hL h1 h2 => ?_)
              have ha_b1 : Ar g b1 0 n (upd f2 (((List.range n).filter (fun i => decide (LY ro n i = w + 1))).getD k 0) (nI (w + 1))) H := h1
              have ob := ob.on h2 ne_a_b1
              have hE := hE.on h2 sz_b1
              have hlf := hlf.keep (Q := fun q => q = b1) (h2.chg rfl) (fun q hq z => by omega) (fun z => by omega)
              have htb := htb.keep (Q := fun q => q = b1) (h2.chg rfl) (fun q hq z => by omega) (fun z => by omega)
              have ob := ob0.ext hE
              have hst := hst0.ext hE
              have hof := hof0.ext hE
              have hbg := hbg0.ext hE
              have hsd := hsd0.ext hE
              have hoft := (hof.sub (fun i hi => tp_rng (w := w) hi) : OfL g ro x ((List.range n).filter (fun i => decide (LY ro n i = w + 1))) H)
              have hofl : OfL g ro x (lyL ro n w) H := hof.sub (fun i hi => ly_rng hi)
              refine lv_iinc (v := nI (k + 1)) (lv' := [(5, .int _), (0, .ref _), (1, .ref _), (2, .ref _), (3, .int _), (4, .ref _)]) hx hb dX2_peeled_64 hl (k := 5) rfl (nI_iinc _ 1 rfl) (by decide) rfl (fun ls hl => ?_)
              refine lv_goto (tgt := 37) hx hb dX2_peeled_67 (by decide) ?_
              exact W.widen (by omega) (by omega) (ih37 (k + 1) _ (by omega) (by omega) (lyF_s (by omega) hf2) _ ha_b1 hE hlf htb _ hL ls (lv_sub hl [1, 2, 3, 4, 5, 0] rfl))
        exact W.widen (by omega) (by omega) (L37 (((List.range n).filter (fun i => decide (LY ro n i = w + 1))).length + 1) 0 f (by omega) (by omega) hf _ ha_b1 hE hlf htb _ hL ls (lv_sub hl [3, 4, 5, 2, 1, 0] rfl))
  exact W.widen (by omega) (by omega) (L17 ((lyL ro n 0).length + 1) 0 _ bb (by omega) (by rw [← act_ly hR]; have := List.length_filter_le (cB ro) (List.range n); rw [rng_len] at this; unfold actL; omega) (fun j hj => by rw [lyF_00]; rfl) _ ha_b1 hE (by rw [← act_ly hR]; exact hbb.to (fun _ _ => rfl) (fun q hq => Nat.lt_of_lt_of_le hbl1 hq)) _ hL ls (lv_sub hl [3, 2, 1, 0] rfl))
theorem vb_X2_peeled : VB yX2_peeled cX2_peeled 6 (some (.array .int)) 0 := ⟨q1070, q1071, q100, q1072, ⟨by decide, by decide, by decide +kernel⟩⟩
