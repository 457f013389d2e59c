/-! taking one by one -/
theorem bnG_congr {a b : Nat → Int32} : ∀ {n : Nat}, (∀ p, p < n → a p = b p) → bnG a n = bnG b n
  | 0, _ => rfl
  | n + 1, h => by
    unfold bnG
    rw [bnG_congr (n := n) (fun p hp => h p (by omega)), h n (by omega)]
/-- what the first k cover -/
def unL (ro : Nat → Int32) (n : Nat) (T0 : Nat → Bool) : Nat → Int64
  | 0 => 0
  | k + 1 => unL ro n T0 k ||| mskL ro (actL ro n) (gBs ro n T0 k)
theorem tak_all {ro : Nat → Int32} {n : Nat} {T0 : Nat → Bool} (hn : n ≤ 40) (hT : ∀ k, T0 k = true → cB ro k = true) : ∀ k, k ≤ cnt T0 n → ∃ used, TakS ro n T0 (grS ro n T0 k).1 (grS ro n T0 k).2.1 used (unL ro n T0 k)
  | 0, _ => ⟨_, TakS.zero ro n T0⟩
  | k + 1, h => by
    obtain ⟨used, h1⟩ := tak_all hn hT k (by omega)
    exact ⟨_, (gr_tak hn hT (by omega) h1).2.2.2⟩
theorem un_ones {ro : Nat → Int32} {n : Nat} {T0 : Nat → Bool} (hn : n ≤ 40) (hT : ∀ k, T0 k = true → cB ro k = true) {k : Nat} (h : k ≤ cnt T0 n) : onesN (unL ro n T0 k) = (grS ro n T0 k).2.2 := by
  obtain ⟨used, h1⟩ := tak_all hn hT k h
  exact tak_ones hn h1
theorem pos_at {n k : Nat} {T0 : Nat → Bool} (hk : k < n) (h : T0 k = true) : cnt T0 k < ((List.range n).filter T0).length ∧ ((List.range n).filter T0).getD (cnt T0 k) 0 = k := by
  obtain ⟨hp, e⟩ := fil_at hk h
  exact ⟨hp, by rw [getD_at hp]; exact e⟩
/-- the told ones' test -/
def toT (ro : Nat → Int32) (n : Nat) : Nat → Bool := tellB ro n (hasB (matI (mw ro)))
theorem toT_c {ro : Nat → Int32} {n : Nat} : ∀ k, toT ro n k = true → cB ro k = true := fun k h => tell_c k h
theorem tol_T (ro : Nat → Int32) (n : Nat) : tolL ro (nI 15) (actL ro n) = (List.range n).filter (toT ro n) := tol_15 ro n

theorem up_used {N p : Nat} {u : Nat → Int32} {used : Nat → Bool} (h : ∀ q, q < N → u q = bI (used q)) : ∀ q, q < N → upd u p (nI 1) q = bI (used q || decide (q = p)) := fun q hq => by
  by_cases e : q = p
  · subst e; rw [pk_us]; simp [bI_T]
  · rw [pk_un e, h q hq]; simp [e]
theorem up_ft {k : Nat} {v : Nat → Nat} {ft : Nat → Int32} (h : ∀ j, j < k → ft j = nI (v j)) : ∀ j, j < k + 1 → upd ft k (nI (v k)) j = nI (v j) := fun j hj => by
  by_cases e : j = k
  · subst e; rw [pk_us]
  · rw [pk_un e]; exact h j (by omega)

set_option maxRecDepth 100000 in
set_option maxHeartbeats 4000000 in
theorem ct_X2_greedy (l : Launch) (g : GT) (ro : Nat → Int32) (n : Nat) (T0 : Nat → Bool) (a ma : Nat) (f : Nat → Int64) (many : Nat) (hn : n ≤ 40) (hT : ∀ k, T0 k = true → cB ro k = true) (hf : ∀ p, p < ((List.range n).filter T0).length → f p = mskL ro (actL ro n) (((List.range n).filter T0).getD p 0)) (hm : many ≤ 100) : Ct l g yX2_greedy cX2_greedy 8 (some (.array .int)) 9 2 80 [.ref a, .ref ma, .int (nI many)] (Al g ma ((List.range n).filter T0).length f) (fun r H H1 => ∃ (tk : Nat) (ft : Nat → Int32), (Ar g tk 0 (min many ((List.range n).filter T0).length) ft H1 ∧ H.size ≤ tk ∧ ∀ k, k < min many ((List.range n).filter T0).length → ft k = nI (cnt T0 (gBs ro n T0 k))) ∧ r = some (.ref tk) ∧ Ext H H1) := by
  refine Ct.of (by decide) (Nat.le_of_ble_eq_true rfl) ?_
  intro p e s m args below meth c X hP ls hl
  have hx := X.1
  have hb := X.2.1
  have hKV := X.2.2.2.2.2.2.2.1.1
  have hL : ∀ q ∈ ([] : List Loc), gLo g ≤ q.base := fun _ h => by cases h
  have hma0 := hP
  have hl : lv_has ls 8 [(0, .ref a), (1, .ref ma), (2, .int (nI many))] := hl
  have hE : Ext s.heap s.heap := Ext.rfl'
  have hma := hma0
  have hNl : ((List.range n).filter T0).length ≤ 40 := by rw [range_filter]; exact Nat.le_trans (cnt_le _ _) hn
  have hNc : ((List.range n).filter T0).length = cnt T0 n := range_filter T0 n
  refine lv_iload_n hx hb dX2_greedy_0 rfl (lv_at hl 2 rfl) ?_
  refine lv_aload_n hx hb dX2_greedy_1 rfl (lv_at hl 1 rfl) ?_
  refine r_len (k := 3) (v := nI (((List.range n).filter T0).length)) X hma rfl rfl dX2_greedy_2 ?_
  refine va_mmin hx hb (X.2.2.1.trans hl.1.symm) X.2.2.2.1 (X.2.2.2.2.1 _ q1244) (X.2.2.2.2.1 _ q415) (X.2.2.2.2.1 _ q120) (X.2.2.2.2.1 _ q416) (Nat.le_of_ble_eq_true rfl) (Nat.le_of_ble_eq_true rfl) (by show 0 ≤ 2; omega) (by show 0 ≤ 80; omega) dX2_greedy_3 ?_
  refine W.stk (w := mnI (nI many) (nI (((List.range n).filter T0).length))) rfl ?_
  refine W.stk (w := (nI (min many ((List.range n).filter T0).length))) (mnI_n (by omega) (by omega)) ?_
  obtain ⟨b1, hb1⟩ : ∃ b, s.heap.size = b := ⟨_, rfl⟩
  have sz_b1 : s.heap.size ≤ b1 := by rw [← hb1]; exact Nat.le_refl _
  have lo_b1 : gLo g ≤ b1 := Nat.le_trans X.2.2.2.2.2.2.2.1.2.1 sz_b1
  have ne_ma_b1 : ma ≠ b1 := Nat.ne_of_lt (by rw [← hb1]; exact hma.lt)
  refine r_newa (atype := .int) (k := 0) (ty := .int) X q209 rfl rfl (fun _ _ => rfl) (x := (nI (min many ((List.range n).filter T0).length))) (N' := (min many ((List.range n).filter T0).length)) (min many ((List.range n).filter T0).length, .inl (fun _ => 0)) (fun _ => rfl) (nI_pos (by omega)) (nI_clamp (by omega)) (by show (min many ((List.range n).filter T0).length) * 4 ≤ 536870912; omega) (by show _ + 1 ≤ 2; omega) (by show _ + (min many ((List.range n).filter T0).length) ≤ 80; omega) dX2_greedy_6 (fun H ha_b1 hE_b1 hz_b1 => ?_)
  rw [hb1] at ha_b1 hz_b1 ⊢
  have hma := hma.ext hE_b1
  have ha_b1 : Ar g b1 0 (min many ((List.range n).filter T0).length) (fun _ => 0) H := ha_b1
  have hE := hE.trans hE_b1
  refine lv_astore_n (lv' := [(3, .ref _), (0, .ref _), (1, .ref _), (2, .int _)]) hx hb dX2_greedy_8 rfl hl (by decide) rfl (fun ls hl => ?_)
  refine lv_aload_n hx hb dX2_greedy_9 rfl (lv_at hl 2 rfl) ?_
  refine r_len (k := 3) (v := nI (((List.range n).filter T0).length)) X hma rfl rfl dX2_greedy_10 ?_
  obtain ⟨b2, hb2⟩ : ∃ b, H.size = b := ⟨_, rfl⟩
  have sz_b2 : s.heap.size ≤ b2 := by rw [← hb2]; exact hE.1
  have lo_b2 : gLo g ≤ b2 := Nat.le_trans X.2.2.2.2.2.2.2.1.2.1 sz_b2
  have ne_ma_b2 : ma ≠ b2 := Nat.ne_of_lt (by rw [← hb2]; exact hma.lt)
  have ne_b1_b2 : b1 ≠ b2 := Nat.ne_of_lt (by rw [← hb2]; exact ha_b1.lt)
  refine r_newa (atype := .boolean) (k := 1) (ty := .boolean) X q1306 rfl rfl (fun _ _ => rfl) (x := (nI (((List.range n).filter T0).length))) (N' := (((List.range n).filter T0).length)) (((List.range n).filter T0).length, .inl (fun _ => 0)) (fun _ => rfl) (nI_pos (by omega)) (nI_clamp (by omega)) (by show (((List.range n).filter T0).length) * 1 ≤ 536870912; omega) (by show _ + 1 ≤ 2; omega) (by show _ + (((List.range n).filter T0).length) ≤ 80; omega) dX2_greedy_11 (fun H ha_b2 hE_b2 hz_b2 => ?_)
  rw [hb2] at ha_b2 hz_b2 ⊢
  have hma := hma.ext hE_b2
  have ha_b1 := ha_b1.ext hE_b2
  have ha_b2 : Ar g b2 1 (((List.range n).filter T0).length) (fun _ => 0) H := ha_b2
  have hE := hE.trans hE_b2
  refine lv_astore (lv' := [(4, .ref _), (3, .ref _), (0, .ref _), (1, .ref _), (2, .int _)]) hx hb dX2_greedy_13 hl (by decide) rfl (fun ls hl => ?_)
  refine lv_lconst (v := 0) hx hb dX2_greedy_15 (by decide) ?_
  refine lv_lstore (lv' := [(5, .long _), (4, .ref _), (3, .ref _), (0, .ref _), (1, .ref _), (2, .int _)]) hx hb dX2_greedy_16 hl (by decide) rfl (fun ls hl => ?_)
  refine lv_iconst (v := nI 0) hx hb dX2_greedy_18 (by decide) ?_
  refine lv_istore (lv' := [(7, .int _), (5, .long _), (4, .ref _), (3, .ref _), (0, .ref _), (1, .ref _), (2, .int _)]) hx hb dX2_greedy_19 hl (by decide) rfl (fun ls hl => ?_)
  have L21 : ∀ (fuel : Nat) (k : Nat) (used : Nat → Bool) (u ft : Nat → Int32), min many ((List.range n).filter T0).length - k < fuel → (k ≤ min many ((List.range n).filter T0).length) → (∀ p, p < ((List.range n).filter T0).length → u p = bI (used p)) → (∀ j, j < k → ft j = nI (cnt T0 (gBs ro n T0 j))) → (TakS ro n T0 (grS ro n T0 k).1 (grS ro n T0 k).2.1 used (unL ro n T0 k)) → ∀ (H : Heap), Ar g b1 0 (min many ((List.range n).filter T0).length) ft H → Ar g b2 1 ((List.range n).filter T0).length u H → Ext s.heap H → ∀ (locs : List Loc), (∀ q ∈ locs, gLo g ≤ q.base) → ∀ (ls : Array Slot), lv_has ls 8 [(0, .ref a), (1, .ref ma), (2, .int (nI many)), (3, .ref b1), (4, .ref b2), (5, .long (unL ro n T0 k)), (7, .int (nI k))] → W p l e (rmL 9 2 80) s m args below meth c H locs 2 80 (MQ below (Qcg (fun r H H1 => ∃ (tk : Nat) (ft : Nat → Int32), (Ar g tk 0 (min many ((List.range n).filter T0).length) ft H1 ∧ H.size ≤ tk ∧ ∀ k, k < min many ((List.range n).filter T0).length → ft k = nI (cnt T0 (gBs ro n T0 k))) ∧ r = some (.ref tk) ∧ Ext H H1)) args s 2 80 (fre g)) (F0 m 21 ls []) := by
    intro fuel
    induction fuel with
    | zero => intro k used u ft hfu; exact absurd hfu (Nat.not_lt_zero _)
    | succ fuel ih21 =>
      intro k used u ft hfu hk hu hft hS H ha_b1 ha_b2 hE locs hL ls hl
      have hma := hma0.ext hE
      refine lv_iload hx hb dX2_greedy_21 (lv_at hl 6 rfl) ?_
      refine lv_aload_n hx hb dX2_greedy_23 rfl (lv_at hl 3 rfl) ?_
      refine r_len (k := 0) (v := nI (min many ((List.range n).filter T0).length)) X ha_b1 rfl rfl dX2_greedy_24 ?_
      refine n_icmp_ge (tgt := 65) X dX2_greedy_25 (by decide) (by omega) (by omega) (fun c_25 => ?_) (fun c_25 => ?_)
      ·
        refine lv_aload_n hx hb dX2_greedy_65 rfl (lv_at hl 3 rfl) ?_
        exact r_aret X hL rfl (Or.inr ⟨_, rfl⟩) (Or.inr ⟨_, rfl⟩) dX2_greedy_66 (by omega) (by omega) ⟨b1, ft, ⟨ha_b1, sz_b1, fun j hj => hft j (by omega)⟩, rfl, hE⟩
      ·
        refine lv_aload_n hx hb dX2_greedy_28 rfl (lv_at hl 3 rfl) ?_
        refine lv_iload hx hb dX2_greedy_29 (lv_at hl 6 rfl) ?_
        refine lv_aload_n hx hb dX2_greedy_31 rfl (lv_at hl 1 rfl) ?_
        refine lv_aload hx hb dX2_greedy_32 (lv_at hl 4 rfl) ?_
        refine lv_lload hx hb dX2_greedy_34 (lv_at hl 5 rfl) ?_
        obtain ⟨hg1, hg2, hg3, hg4⟩ := gr_tak hn hT (z := k) (by omega) hS
        obtain ⟨hp1, hp2⟩ := pos_at hg2 hg3
        have hpl : cnt T0 (gBs ro n T0 k) < 41 := by omega
        refine Cp.callS (v := .int ((bnG (fun p => if used p then (-1) else nI (onesN (f p &&& ((unL ro n T0 k) ^^^ (-1))))) (((List.range n).filter T0).length)).1)) (ct_X2_bestNext l g ma b2 (((List.range n).filter T0).length) f u used (unL ro n T0 k) hNl hu) X hL hl sb_X2_bestNext q1245 rfl rfl (Nat.le_of_ble_eq_true rfl) dX2_greedy_36 ⟨Nat.le_of_ble_eq_true rfl, Nat.le_of_ble_eq_true rfl⟩ (by omega) (by omega) ⟨hma, ha_b2⟩ (fun locs hL => ?_)
        refine W.stk (w := (nI (cnt T0 (gBs ro n T0 k)))) (by rw [← hg1]; exact congrArg Prod.fst (bnG_congr (fun p hp => by unfold ownI; rw [hf p hp]))) ?_
        refine r_ist X hL ha_b1 lo_b1 k (nI_cl (by omega) rfl) (nI_nn (by omega) rfl) (by omega) dX2_greedy_39 (fun H locs hL h1 h2 => ?_)
        have ha_b1 : Ar g b1 0 (min many ((List.range n).filter T0).length) (upd ft k (nI (cnt T0 (gBs ro n T0 k)))) H := h1
        have hma := hma.on h2 ne_ma_b1
        have ha_b2 := ha_b2.on h2 (Ne.symm ne_b1_b2)
        have hE := hE.on h2 sz_b1
        refine lv_aload hx hb dX2_greedy_40 (lv_at hl 4 rfl) ?_
        refine lv_aload_n hx hb dX2_greedy_42 rfl (lv_at hl 3 rfl) ?_
        refine lv_iload hx hb dX2_greedy_43 (lv_at hl 6 rfl) ?_
        refine r_ild X ha_b1 k (nI_cl (by omega) rfl) (nI_nn (by omega) rfl) (by omega) dX2_greedy_45 ?_
        rw [show (upd ft k (nI (cnt T0 (gBs ro n T0 k)))) k = (nI (cnt T0 (gBs ro n T0 k))) from pk_us]
        refine lv_iconst (v := nI 1) hx hb dX2_greedy_46 (by decide) ?_
        refine r_zst X hL ha_b2 lo_b2 (cnt T0 (gBs ro n T0 k)) (nI_cl (by omega) rfl) (nI_nn (by omega) rfl) (by omega) rfl dX2_greedy_47 (fun H locs hL h1 h2 => ?_)
        have ha_b2 : Ar g b2 1 (((List.range n).filter T0).length) (upd u (cnt T0 (gBs ro n T0 k)) (nI 1)) H := h1
        have hma := hma.on h2 ne_ma_b2
        have ha_b1 := ha_b1.on h2 ne_b1_b2
        have hE := hE.on h2 sz_b2
        refine lv_lload hx hb dX2_greedy_48 (lv_at hl 5 rfl) ?_
        refine lv_aload_n hx hb dX2_greedy_50 rfl (lv_at hl 1 rfl) ?_
        refine lv_aload_n hx hb dX2_greedy_51 rfl (lv_at hl 3 rfl) ?_
        refine lv_iload hx hb dX2_greedy_52 (lv_at hl 6 rfl) ?_
        refine r_ild X ha_b1 k (nI_cl (by omega) rfl) (nI_nn (by omega) rfl) (by omega) dX2_greedy_54 ?_
        rw [show (upd ft k (nI (cnt T0 (gBs ro n T0 k)))) k = (nI (cnt T0 (gBs ro n T0 k))) from pk_us]
        refine r_lld X hma (cnt T0 (gBs ro n T0 k)) (nI_cl (by omega) rfl) (nI_nn (by omega) rfl) (by omega) dX2_greedy_55 ?_
        rw [show f (cnt T0 (gBs ro n T0 k)) = mskL ro (actL ro n) (gBs ro n T0 k) from (by rw [hf _ hp1, hp2])]
        refine lv_lor hx hb dX2_greedy_56 ?_
        refine lv_lstore (lv' := [(5, .long _), (0, .ref _), (1, .ref _), (2, .int _), (3, .ref _), (4, .ref _), (7, .int _)]) hx hb dX2_greedy_57 hl (by decide) rfl (fun ls hl => ?_)
        refine lv_iinc (v := nI (k + 1)) (lv' := [(7, .int _), (5, .long _), (0, .ref _), (1, .ref _), (2, .int _), (3, .ref _), (4, .ref _)]) hx hb dX2_greedy_59 hl (k := 6) rfl (nI_iinc _ 1 rfl) (by decide) rfl (fun ls hl => ?_)
        refine lv_goto (tgt := 21) hx hb dX2_greedy_62 (by decide) ?_
        exact W.widen (by omega) (by omega) (ih21 (k + 1) _ _ _ (by omega) (by omega) (up_used hu) (up_ft hft) hg4 _ ha_b1 ha_b2 hE _ hL ls (lv_sub hl [2, 3, 4, 5, 6, 1, 0] rfl))
  exact W.widen (by omega) (by omega) (L21 (min many ((List.range n).filter T0).length + 1) 0 _ _ _ (by omega) (by omega) (fun _ _ => rfl) (fun j hj => absurd hj (Nat.not_lt_zero _)) (TakS.zero ro n T0) _ ha_b1 ha_b2 hE _ hL ls (lv_sub hl [4, 5, 6, 3, 2, 1, 0] rfl))
theorem vb_X2_greedy : VB yX2_greedy cX2_greedy 8 (some (.array .int)) 2 := ⟨q1242, qs38, q100, q1243, ⟨by decide, by decide, by decide +kernel⟩⟩

set_option maxRecDepth 100000 in
set_option maxHeartbeats 4000000 in
theorem ct_X2_coveredBy (l : Launch) (g : GT) (ro : Nat → Int32) (n : Nat) (x : Nat → Nat) (a : Nat) (many : Nat) (hn : n ≤ 40) (hw : WO (mw ro)) (hm : many ≤ 100) : Ct l g yX2_coveredBy cX2_coveredBy 10 (some .int) 14 21 403 [.ref a, .int (nI many)] (fun H => StQ g ro n x a H) (fun r H H1 => r = some (.int (nI (grS ro n (toT ro n) (min many (cnt (toT ro n) n))).2.2)) ∧ Ext H H1) := by
  refine Ct.of (by decide) (Nat.le_of_ble_eq_true rfl) ?_
  intro p e s m args below meth c X hP ls hl
  have hx := X.1
  have hb := X.2.1
  have hKV := X.2.2.2.2.2.2.2.1.1
  have hL : ∀ q ∈ ([] : List Loc), gLo g ≤ q.base := fun _ h => by cases h
  have hst := hP
  have hst9 := hst
  obtain ⟨sb, sd, PB, PS, ob, hbg, hsd, hof, hinj⟩ := hst9
  have hl : lv_has ls 10 [(0, .ref a), (1, .int (nI many))] := hl
  have hrl : (List.range n).length ≤ 40 := by rw [rng_len]; exact hn
  have hE : Ext s.heap s.heap := Ext.rfl'
  have ob0 := ob
  have hst0 := hst
  have hof0 := hof
  have hbg0 := hbg
  have hsd0 := hsd
  refine lv_aload_n hx hb dX2_coveredBy_0 rfl (lv_at hl 0 rfl) ?_
  refine Ct.callV (ct_X2_active l g ro n x a hn) X hL hl vb_X2_active q527 (hst.recv hKV) rfl rfl (Nat.le_of_ble_eq_true rfl) dX2_coveredBy_1 ⟨Nat.le_of_ble_eq_true rfl, Nat.le_of_ble_eq_true rfl⟩ (by omega) (by omega) hst (fun r H locs hL hp => ?_)
  obtain ⟨bb, hbb, rfl, hE1⟩ := hp
  have ob := ob.ext hE1
  have hst := hst.ext hE1
  have hof := hof.ext hE1
  have hbg := hbg.ext hE1
  have hsd := hsd.ext hE1
  have hE := hE.trans hE1
  have hqbb : BgQ g x (actL ro n) bb H := ⟨_, hbb⟩
  have hla : (actL ro n).length ≤ 40 := act_len hn
  have hofa : OfL g ro x (actL ro n) H := hof.sub (fun i hi => act_in hi)
  refine lv_astore_n (lv' := [(2, .ref _), (0, .ref _), (1, .int _)]) hx hb dX2_coveredBy_4 rfl hl (by decide) rfl (fun ls hl => ?_)
  refine lv_aload_n hx hb dX2_coveredBy_5 rfl (lv_at hl 1 rfl) ?_
  refine lv_aload_n hx hb dX2_coveredBy_6 rfl (lv_at hl 1 rfl) ?_
  refine lv_aload_n hx hb dX2_coveredBy_7 rfl (lv_at hl 0 rfl) ?_
  refine Ct.callV (ct_X2_told l g ro x a (actL ro n) bb hw hla) X hL hl vb_X2_told q553 (hst.recv hKV) rfl rfl (Nat.le_of_ble_eq_true rfl) dX2_coveredBy_8 ⟨Nat.le_of_ble_eq_true rfl, Nat.le_of_ble_eq_true rfl⟩ (by omega) (by omega) ⟨hst.sd, hqbb, hofa⟩ (fun r H locs hL hp => ?_)
  obtain ⟨tb, htb, rfl, hE1⟩ := hp
  have ob := ob.ext hE1
  have hst := hst.ext hE1
  have hof := hof.ext hE1
  have hbg := hbg.ext hE1
  have hsd := hsd.ext hE1
  have hofa := hofa.ext hE1
  have hbb := hbb.ext hE1
  have hqbb := hqbb.ext hE1
  have hE := hE.trans hE1
  have hqtb : BgQ g x (tolL ro (nI 15) (actL ro n)) tb H := ⟨_, htb⟩
  rw [tol_T] at htb hqtb
  have hlt : ((List.range n).filter (toT ro n)).length ≤ 40 := by rw [range_filter]; exact Nat.le_trans (cnt_le _ _) hn
  have hoft : OfL g ro x ((List.range n).filter (toT ro n)) H := hof.sub (fun i hi => (List.mem_filter.mp hi).1)
  refine lv_aload_n hx hb dX2_coveredBy_11 rfl (lv_at hl 0 rfl) ?_
  refine Ct.callV (ct_X2_masks l g ro a x ((List.range n).filter (toT ro n)) (actL ro n) tb bb hw hlt hla) X hL hl vb_X2_masks q1094 (hst.recv hKV) rfl rfl (Nat.le_of_ble_eq_true rfl) dX2_coveredBy_12 ⟨Nat.le_of_ble_eq_true rfl, Nat.le_of_ble_eq_true rfl⟩ (by omega) (by omega) ⟨hst.sd, hqtb, hqbb, hoft, hofa⟩ (fun r H locs hL hp => ?_)
  obtain ⟨mb, mf, ⟨hmb, hms, hml, hmf⟩, rfl, hE1⟩ := hp
  have ob := ob.ext hE1
  have hst := hst.ext hE1
  have hof := hof.ext hE1
  have hbg := hbg.ext hE1
  have hsd := hsd.ext hE1
  have hbb := hbb.ext hE1
  have hqbb := hqbb.ext hE1
  have hofa := hofa.ext hE1
  have htb := htb.ext hE1
  have hqtb := hqtb.ext hE1
  have hoft := hoft.ext hE1
  have hE := hE.trans hE1
  refine lv_astore_n (lv' := [(3, .ref _), (2, .ref _), (0, .ref _), (1, .int _)]) hx hb dX2_coveredBy_15 rfl hl (by decide) rfl (fun ls hl => ?_)
  refine lv_lconst (v := 0) hx hb dX2_coveredBy_16 (by decide) ?_
  refine lv_lstore (lv' := [(4, .long _), (3, .ref _), (2, .ref _), (0, .ref _), (1, .int _)]) hx hb dX2_coveredBy_17 hl (by decide) rfl (fun ls hl => ?_)
  refine lv_aload_n hx hb dX2_coveredBy_19 rfl (lv_at hl 3 rfl) ?_
  refine lv_aload_n hx hb dX2_coveredBy_20 rfl (lv_at hl 1 rfl) ?_
  refine lv_iload_n hx hb dX2_coveredBy_21 rfl (lv_at hl 4 rfl) ?_
  refine Ct.callV (ct_X2_greedy l g ro n (toT ro n) a mb mf many hn toT_c hmf (by omega)) X hL hl vb_X2_greedy q1240 (hst.recv hKV) rfl rfl (Nat.le_of_ble_eq_true rfl) dX2_coveredBy_22 ⟨Nat.le_of_ble_eq_true rfl, Nat.le_of_ble_eq_true rfl⟩ (by omega) (by omega) hmb (fun r H locs hL hp => ?_)
  obtain ⟨tk, ft, ⟨htk, hts, hft⟩, rfl, hE1⟩ := hp
  have hmb := hmb.ext hE1
  have ob := ob.ext hE1
  have hst := hst.ext hE1
  have hof := hof.ext hE1
  have hbg := hbg.ext hE1
  have hsd := hsd.ext hE1
  have hbb := hbb.ext hE1
  have hqbb := hqbb.ext hE1
  have hofa := hofa.ext hE1
  have htb := htb.ext hE1
  have hqtb := hqtb.ext hE1
  have hoft := hoft.ext hE1
  have hE := hE.trans hE1
  refine lv_astore (lv' := [(6, .ref _), (4, .long _), (3, .ref _), (2, .ref _), (0, .ref _), (1, .int _)]) hx hb dX2_coveredBy_25 hl (by decide) rfl (fun ls hl => ?_)
  refine lv_aload hx hb dX2_coveredBy_27 (lv_at hl 0 rfl) ?_
  refine r_len (k := 0) (v := nI (min many ((List.range n).filter (toT ro n)).length)) X htk rfl rfl dX2_coveredBy_29 ?_
  refine lv_istore (lv' := [(7, .int _), (6, .ref _), (4, .long _), (3, .ref _), (2, .ref _), (0, .ref _), (1, .int _)]) hx hb dX2_coveredBy_30 hl (by decide) rfl (fun ls hl => ?_)
  refine lv_iconst (v := nI 0) hx hb dX2_coveredBy_32 (by decide) ?_
  refine lv_istore (lv' := [(8, .int _), (7, .int _), (6, .ref _), (4, .long _), (3, .ref _), (2, .ref _), (0, .ref _), (1, .int _)]) hx hb dX2_coveredBy_33 hl (by decide) rfl (fun ls hl => ?_)
  have L35 : ∀ (fuel : Nat) (k : Nat), (min many ((List.range n).filter (toT ro n)).length) - k < fuel → (k ≤ (min many ((List.range n).filter (toT ro n)).length)) → ∀ (locs : List Loc), (∀ q ∈ locs, gLo g ≤ q.base) → ∀ (ls : Array Slot), lv_has ls 10 [(3, .ref mb), (4, .long (unL ro n (toT ro n) k)), (6, .ref tk), (7, .int (nI (min many ((List.range n).filter (toT ro n)).length))), (8, .int (nI k))] → W p l e (rmL 14 21 403) s m args below meth c H locs 21 403 (MQ below (Qcg (fun r H H1 => r = some (.int (nI (grS ro n (toT ro n) (min many (cnt (toT ro n) n))).2.2)) ∧ Ext H H1)) args s 21 403 (fre g)) (F0 m 35 ls []) := by
    intro fuel
    induction fuel with
    | zero => intro k hfu; exact absurd hfu (Nat.not_lt_zero _)
    | succ fuel ih35 =>
      intro k hfu hk  locs hL ls hl
      refine lv_iload hx hb dX2_coveredBy_35 (lv_at hl 4 rfl) ?_
      refine lv_iload hx hb dX2_coveredBy_37 (lv_at hl 3 rfl) ?_
      refine n_icmp_ge (tgt := 64) X dX2_coveredBy_39 (by decide) (by omega) (by omega) (fun c_39 => ?_) (fun c_39 => ?_)
      ·
        refine lv_lload hx hb dX2_coveredBy_64 (lv_at hl 1 rfl) ?_
        refine Cp.callS (v := .int (nI (onesN (unL ro n (toT ro n) k)))) (ct_X2_ones l g (unL ro n (toT ro n) k) ) X hL hl sb_X2_ones q1099 rfl rfl (Nat.le_of_ble_eq_true rfl) dX2_coveredBy_66 ⟨Nat.le_of_ble_eq_true rfl, Nat.le_of_ble_eq_true rfl⟩ (by omega) (by omega) trivial (fun locs hL => ?_)
        exact r_iret X hL rfl rfl dX2_coveredBy_69 (by omega) (by omega) ⟨by rw [show k = min many (cnt (toT ro n) n) by rw [← range_filter]; omega, un_ones hn toT_c (by omega)], hE⟩
      ·
        refine lv_aload hx hb dX2_coveredBy_42 (lv_at hl 2 rfl) ?_
        refine lv_iload hx hb dX2_coveredBy_44 (lv_at hl 4 rfl) ?_
        refine r_ild X htk k (nI_cl (by omega) rfl) (nI_nn (by omega) rfl) (by omega) dX2_coveredBy_46 ?_
        rw [show ft k = (nI (cnt (toT ro n) (gBs ro n (toT ro n) k))) from (hft k (by omega))]
        refine lv_istore (lv' := [(9, .int _), (3, .ref _), (4, .long _), (6, .ref _), (7, .int _), (8, .int _)]) hx hb dX2_coveredBy_47 hl (by decide) rfl (fun ls hl => ?_)
        refine lv_lload hx hb dX2_coveredBy_49 (lv_at hl 2 rfl) ?_
        refine lv_aload_n hx hb dX2_coveredBy_51 rfl (lv_at hl 1 rfl) ?_
        refine lv_iload hx hb dX2_coveredBy_52 (lv_at hl 0 rfl) ?_
        obtain ⟨used, hS⟩ := tak_all hn (toT_c (ro := ro) (n := n)) k (by rw [← range_filter]; omega)
        obtain ⟨hg1, hg2, hg3, hg4⟩ := gr_tak hn toT_c (z := k) (by rw [← range_filter]; omega) hS
        obtain ⟨hp1, hp2⟩ := pos_at hg2 hg3
        have hpl := Nat.lt_of_lt_of_le hp1 hlt
        refine r_lld X hmb (cnt (toT ro n) (gBs ro n (toT ro n) k)) (nI_cl (by omega) rfl) (nI_nn (by omega) rfl) (by omega) dX2_coveredBy_54 ?_
        rw [show mf (cnt (toT ro n) (gBs ro n (toT ro n) k)) = mskL ro (actL ro n) (gBs ro n (toT ro n) k) from (by rw [hmf _ hp1, hp2])]
        refine lv_lor hx hb dX2_coveredBy_55 ?_
        refine lv_lstore (lv' := [(4, .long _), (9, .int _), (3, .ref _), (6, .ref _), (7, .int _), (8, .int _)]) hx hb dX2_coveredBy_56 hl (by decide) rfl (fun ls hl => ?_)
        refine lv_iinc (v := nI (k + 1)) (lv' := [(8, .int _), (4, .long _), (9, .int _), (3, .ref _), (6, .ref _), (7, .int _)]) hx hb dX2_coveredBy_58 hl (k := 5) rfl (nI_iinc _ 1 rfl) (by decide) rfl (fun ls hl => ?_)
        refine lv_goto (tgt := 35) hx hb dX2_coveredBy_61 (by decide) ?_
        exact W.widen (by omega) (by omega) (ih35 (k + 1) (by omega) (by omega) _ hL ls (lv_sub hl [3, 1, 4, 5, 0] rfl))
  exact W.widen (by omega) (by omega) (L35 ((min many ((List.range n).filter (toT ro n)).length) + 1) 0 (by omega) (by omega) _ hL ls (lv_sub hl [4, 3, 2, 1, 0] rfl))
theorem vb_X2_coveredBy : VB yX2_coveredBy cX2_coveredBy 10 (some .int) 1 := ⟨q1237, q1238, q100, q1239, ⟨by decide, by decide, by decide +kernel⟩⟩
