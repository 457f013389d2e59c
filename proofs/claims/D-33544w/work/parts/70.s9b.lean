/-! taken in order; covered by two -/
def tkR (ro : Nat → Int32) (n k : Nat) : List Nat := (List.range k).map (gBs ro n (toT ro n))
theorem tkR_s (ro : Nat → Int32) (n k : Nat) : tkR ro n (k + 1) = tkR ro n k ++ [gBs ro n (toT ro n) k] := by
  unfold tkR; rw [List.range_succ, List.map_append]; rfl
theorem tkR_len (ro : Nat → Int32) (n k : Nat) : (tkR ro n k).length = k := by unfold tkR; rw [List.length_map, List.length_range]
theorem tk_at {ro : Nat → Int32} {n k : Nat} (hn : n ≤ 40) (h : k < cnt (toT ro n) n) : gBs ro n (toT ro n) k < n ∧ toT ro n (gBs ro n (toT ro n) k) = true := by
  obtain ⟨used, hS⟩ := tak_all hn (toT_c (ro := ro) (n := n)) k (by omega)
  obtain ⟨-, h2, h3, -⟩ := gr_tak hn toT_c h hS
  exact ⟨h2, h3⟩
theorem tkR_in {ro : Nat → Int32} {n k i : Nat} (hn : n ≤ 40) (h : k ≤ cnt (toT ro n) n) (hi : i ∈ tkR ro n k) : i ∈ List.range n := by
  unfold tkR at hi
  obtain ⟨j, hj, e⟩ := List.mem_map.mp hi
  rw [List.mem_range] at hj
  rw [← e, List.mem_range]; exact (tk_at hn (by omega)).1

set_option maxRecDepth 100000 in
set_option maxHeartbeats 4000000 in
theorem ct_X2_bestByTwo (l : Launch) (g : GT) (ro : Nat → Int32) (n : Nat) (x : Nat → Nat) (a : Nat) (hn : n ≤ 40) (hw : WO (mw ro)) : Ct l g yX2_bestByTwo cX2_bestByTwo 6 (some .int) 14 19 323 [.ref a] (fun H => StQ g ro n x a H) (fun r H H1 => r = some (.int (nI (twA ro n (toT ro n) n))) ∧ Ext H H1) := by
  refine Ct.of (by decide) (Nat.le_of_ble_eq_true rfl) ?_
  intro p e s m args below meth c X hP ls hl
  have hx := X.1
  have hb := X.2.1
  have hKV := X.2.2.2.2.2.2.2.1.1
  have hL : ∀ q ∈ ([] : List Loc), gLo g ≤ q.base := fun _ h => by cases h
  have hst := hP
  have hst9 := hst
  obtain ⟨sb, sd, PB, PS, ob, hbg, hsd, hof, hinj⟩ := hst9
  have hl : lv_has ls 6 [(0, .ref a)] := hl
  have hrl : (List.range n).length ≤ 40 := by rw [rng_len]; exact hn
  have hE : Ext s.heap s.heap := Ext.rfl'
  have ob0 := ob
  have hst0 := hst
  have hof0 := hof
  have hbg0 := hbg
  have hsd0 := hsd
  refine lv_aload_n hx hb dX2_bestByTwo_0 rfl (lv_at hl 0 rfl) ?_
  refine Ct.callV (ct_X2_active l g ro n x a hn) X hL hl vb_X2_active q527 (hst.recv hKV) rfl rfl (Nat.le_of_ble_eq_true rfl) dX2_bestByTwo_1 ⟨Nat.le_of_ble_eq_true rfl, Nat.le_of_ble_eq_true rfl⟩ (by omega) (by omega) hst (fun r H locs hL hp => ?_)
  obtain ⟨bb, hbb, rfl, hE1⟩ := hp
  have ob := ob.ext hE1
  have hst := hst.ext hE1
  have hof := hof.ext hE1
  have hbg := hbg.ext hE1
  have hsd := hsd.ext hE1
  have hE := hE.trans hE1
  have hqbb : BgQ g x (actL ro n) bb H := ⟨_, hbb⟩
  have hla : (actL ro n).length ≤ 40 := act_len hn
  have hofa : OfL g ro x (actL ro n) H := hof.sub (fun i hi => act_in hi)
  refine lv_astore_n (lv' := [(1, .ref _), (0, .ref _)]) hx hb dX2_bestByTwo_4 rfl hl (by decide) rfl (fun ls hl => ?_)
  refine lv_aload_n hx hb dX2_bestByTwo_5 rfl (lv_at hl 1 rfl) ?_
  refine lv_aload_n hx hb dX2_bestByTwo_6 rfl (lv_at hl 1 rfl) ?_
  refine lv_aload_n hx hb dX2_bestByTwo_7 rfl (lv_at hl 0 rfl) ?_
  refine Ct.callV (ct_X2_told l g ro x a (actL ro n) bb hw hla) X hL hl vb_X2_told q553 (hst.recv hKV) rfl rfl (Nat.le_of_ble_eq_true rfl) dX2_bestByTwo_8 ⟨Nat.le_of_ble_eq_true rfl, Nat.le_of_ble_eq_true rfl⟩ (by omega) (by omega) ⟨hst.sd, hqbb, hofa⟩ (fun r H locs hL hp => ?_)
  obtain ⟨tb, htb, rfl, hE1⟩ := hp
  have ob := ob.ext hE1
  have hst := hst.ext hE1
  have hof := hof.ext hE1
  have hbg := hbg.ext hE1
  have hsd := hsd.ext hE1
  have hofa := hofa.ext hE1
  have hbb := hbb.ext hE1
  have hqbb := hqbb.ext hE1
  have hE := hE.trans hE1
  have hqtb : BgQ g x (tolL ro (nI 15) (actL ro n)) tb H := ⟨_, htb⟩
  rw [tol_T] at htb hqtb
  have hlt : ((List.range n).filter (toT ro n)).length ≤ 40 := by rw [range_filter]; exact Nat.le_trans (cnt_le _ _) hn
  have hoft : OfL g ro x ((List.range n).filter (toT ro n)) H := hof.sub (fun i hi => (List.mem_filter.mp hi).1)
  refine lv_aload_n hx hb dX2_bestByTwo_11 rfl (lv_at hl 0 rfl) ?_
  refine Ct.callV (ct_X2_masks l g ro a x ((List.range n).filter (toT ro n)) (actL ro n) tb bb hw hlt hla) X hL hl vb_X2_masks q1094 (hst.recv hKV) rfl rfl (Nat.le_of_ble_eq_true rfl) dX2_bestByTwo_12 ⟨Nat.le_of_ble_eq_true rfl, Nat.le_of_ble_eq_true rfl⟩ (by omega) (by omega) ⟨hst.sd, hqtb, hqbb, hoft, hofa⟩ (fun r H locs hL hp => ?_)
  obtain ⟨mb, mf, ⟨hmb, hms, hml, hmf⟩, rfl, hE1⟩ := hp
  have ob := ob.ext hE1
  have hst := hst.ext hE1
  have hof := hof.ext hE1
  have hbg := hbg.ext hE1
  have hsd := hsd.ext hE1
  have hbb := hbb.ext hE1
  have hqbb := hqbb.ext hE1
  have hofa := hofa.ext hE1
  have htb := htb.ext hE1
  have hqtb := hqtb.ext hE1
  have hoft := hoft.ext hE1
  have hE := hE.trans hE1
  refine lv_astore_n (lv' := [(2, .ref _), (1, .ref _), (0, .ref _)]) hx hb dX2_bestByTwo_15 rfl hl (by decide) rfl (fun ls hl => ?_)
  refine lv_iconst (v := nI 0) hx hb dX2_bestByTwo_16 (by decide) ?_
  refine lv_istore_n (lv' := [(3, .int _), (2, .ref _), (1, .ref _), (0, .ref _)]) hx hb dX2_bestByTwo_17 rfl hl (by decide) rfl (fun ls hl => ?_)
  refine lv_iconst (v := nI 0) hx hb dX2_bestByTwo_18 (by decide) ?_
  refine lv_istore (lv' := [(4, .int _), (3, .int _), (2, .ref _), (1, .ref _), (0, .ref _)]) hx hb dX2_bestByTwo_19 hl (by decide) rfl (fun ls hl => ?_)
  have L21 : ∀ (fuel : Nat) (i : Nat), ((List.range n).filter (toT ro n)).length - i < fuel → (i ≤ ((List.range n).filter (toT ro n)).length) → ∀ (locs : List Loc), (∀ q ∈ locs, gLo g ≤ q.base) → ∀ (ls : Array Slot), lv_has ls 6 [(2, .ref mb), (3, .int (nI (tpA (fun i j => twN ro n (((List.range n).filter (toT ro n)).getD i 0) (((List.range n).filter (toT ro n)).getD j 0)) ((List.range n).filter (toT ro n)).length i))), (4, .int (nI i))] → W p l e (rmL 14 19 323) s m args below meth c H locs 19 323 (MQ below (Qcg (fun r H H1 => r = some (.int (nI (twA ro n (toT ro n) n))) ∧ Ext H H1)) args s 19 323 (fre g)) (F0 m 21 ls []) := by
    intro fuel
    induction fuel with
    | zero => intro i hfu; exact absurd hfu (Nat.not_lt_zero _)
    | succ fuel ih21 =>
      intro i hfu hi  locs hL ls hl
      have hv1 : tpA (fun i j => twN ro n (((List.range n).filter (toT ro n)).getD i 0) (((List.range n).filter (toT ro n)).getD j 0)) ((List.range n).filter (toT ro n)).length i ≤ 40 := tpA_le i hi (fun _ _ _ _ _ => Nat.le_trans (cnt_le _ _) hn)
      refine lv_iload hx hb dX2_bestByTwo_21 (lv_at hl 2 rfl) ?_
      refine lv_aload_n hx hb dX2_bestByTwo_23 rfl (lv_at hl 0 rfl) ?_
      refine r_len (k := 3) (v := nI (((List.range n).filter (toT ro n)).length)) X hmb rfl rfl dX2_bestByTwo_24 ?_
      refine n_icmp_ge (tgt := 68) X dX2_bestByTwo_25 (by decide) (by omega) (by omega) (fun c_25 => ?_) (fun c_25 => ?_)
      ·
        refine lv_iload_n hx hb dX2_bestByTwo_68 rfl (lv_at hl 1 rfl) ?_
        exact r_iret X hL rfl rfl dX2_bestByTwo_69 (by omega) (by omega) ⟨by rw [show i = ((List.range n).filter (toT ro n)).length by omega, two_eq (T0 := toT ro n) (fun i j => twN ro n (((List.range n).filter (toT ro n)).getD i 0) (((List.range n).filter (toT ro n)).getD j 0)) (fun _ _ _ _ => rfl)], hE⟩
      ·
        refine lv_iload hx hb dX2_bestByTwo_28 (lv_at hl 2 rfl) ?_
        refine lv_istore (lv' := [(5, .int _), (2, .ref _), (3, .int _), (4, .int _)]) hx hb dX2_bestByTwo_30 hl (by decide) rfl (fun ls hl => ?_)
        have L32 : ∀ (fuel : Nat) (j : Nat), ((List.range n).filter (toT ro n)).length - i - j < fuel → (i + j ≤ ((List.range n).filter (toT ro n)).length) → ∀ (locs : List Loc), (∀ q ∈ locs, gLo g ≤ q.base) → ∀ (ls : Array Slot), lv_has ls 6 [(2, .ref mb), (3, .int (nI (tpB (fun i j => twN ro n (((List.range n).filter (toT ro n)).getD i 0) (((List.range n).filter (toT ro n)).getD j 0)) ((List.range n).filter (toT ro n)).length i (tpA (fun i j => twN ro n (((List.range n).filter (toT ro n)).getD i 0) (((List.range n).filter (toT ro n)).getD j 0)) ((List.range n).filter (toT ro n)).length i) j))), (4, .int (nI i)), (5, .int (nI (i + j)))] → W p l e (rmL 14 19 323) s m args below meth c H locs 19 323 (MQ below (Qcg (fun r H H1 => r = some (.int (nI (twA ro n (toT ro n) n))) ∧ Ext H H1)) args s 19 323 (fre g)) (F0 m 32 ls []) := by
          intro fuel
          induction fuel with
          | zero => intro j hfu; exact absurd hfu (Nat.not_lt_zero _)
          | succ fuel ih32 =>
            intro j hfu hj  locs hL ls hl
            have hv2 : tpB (fun i j => twN ro n (((List.range n).filter (toT ro n)).getD i 0) (((List.range n).filter (toT ro n)).getD j 0)) ((List.range n).filter (toT ro n)).length i (tpA (fun i j => twN ro n (((List.range n).filter (toT ro n)).getD i 0) (((List.range n).filter (toT ro n)).getD j 0)) ((List.range n).filter (toT ro n)).length i) j ≤ 40 := tpB_le hv1 j (fun _ _ => Nat.le_trans (cnt_le _ _) hn)
            refine lv_iload hx hb dX2_bestByTwo_32 (lv_at hl 3 rfl) ?_
            refine lv_aload_n hx hb dX2_bestByTwo_34 rfl (lv_at hl 0 rfl) ?_
            refine r_len (k := 3) (v := nI (((List.range n).filter (toT ro n)).length)) X hmb rfl rfl dX2_bestByTwo_35 ?_
            refine n_icmp_ge (tgt := 62) X dX2_bestByTwo_36 (by decide) (by omega) (by omega) (fun c_36 => ?_) (fun c_36 => ?_)
            ·
              refine lv_iinc (v := nI (i + 1)) (lv' := [(4, .int _), (2, .ref _), (3, .int _), (5, .int _)]) hx hb dX2_bestByTwo_62 hl (k := 2) rfl (nI_iinc _ 1 rfl) (by decide) rfl (fun ls hl => ?_)
              refine lv_goto (tgt := 21) hx hb dX2_bestByTwo_65 (by decide) ?_
              obtain rfl : j = ((List.range n).filter (toT ro n)).length - i := by omega
              exact W.widen (by omega) (by omega) (ih21 (i + 1) (by omega) (by omega) _ hL ls (lv_sub hl [1, 2, 0] rfl))
            ·
              refine lv_iload_n hx hb dX2_bestByTwo_39 rfl (lv_at hl 1 rfl) ?_
              refine lv_aload_n hx hb dX2_bestByTwo_40 rfl (lv_at hl 0 rfl) ?_
              refine lv_iload hx hb dX2_bestByTwo_41 (lv_at hl 2 rfl) ?_
              refine r_lld X hmb i (nI_cl (by omega) rfl) (nI_nn (by omega) rfl) (by omega) dX2_bestByTwo_43 ?_
              rw [show mf i = mskL ro (actL ro n) (((List.range n).filter (toT ro n)).getD i 0) from (hmf i (by omega))]
              refine lv_aload_n hx hb dX2_bestByTwo_44 rfl (lv_at hl 0 rfl) ?_
              refine lv_iload hx hb dX2_bestByTwo_45 (lv_at hl 3 rfl) ?_
              refine r_lld X hmb (i + j) (nI_cl (by omega) rfl) (nI_nn (by omega) rfl) (by omega) dX2_bestByTwo_47 ?_
              rw [show mf (i + j) = mskL ro (actL ro n) (((List.range n).filter (toT ro n)).getD (i + j) 0) from (hmf (i + j) (by omega))]
              refine lv_lor hx hb dX2_bestByTwo_48 ?_
              have hca : ∀ p, p < ((List.range n).filter (toT ro n)).length → cB ro (((List.range n).filter (toT ro n)).getD p 0) = true := fun p hp => toT_c _ (by rw [getD_at hp]; exact (fil_get hp).2.1)
              refine Cp.callS (v := .int (nI (onesN ((mskL ro (actL ro n) (((List.range n).filter (toT ro n)).getD i 0)) ||| (mskL ro (actL ro n) (((List.range n).filter (toT ro n)).getD (i + j) 0)))))) (ct_X2_ones l g ((mskL ro (actL ro n) (((List.range n).filter (toT ro n)).getD i 0)) ||| (mskL ro (actL ro n) (((List.range n).filter (toT ro n)).getD (i + j) 0))) ) X hL hl sb_X2_ones q1099 rfl rfl (Nat.le_of_ble_eq_true rfl) dX2_bestByTwo_49 ⟨Nat.le_of_ble_eq_true rfl, Nat.le_of_ble_eq_true rfl⟩ (by omega) (by omega) trivial (fun locs hL => ?_)
              refine W.stk (w := (nI (twN ro n (((List.range n).filter (toT ro n)).getD i 0) (((List.range n).filter (toT ro n)).getD (i + j) 0)))) (by rw [two_ones hn (hca i (by omega)) (hca (i + j) (by omega))]) ?_
              have htl : twN ro n (((List.range n).filter (toT ro n)).getD i 0) (((List.range n).filter (toT ro n)).getD (i + j) 0) ≤ 40 := Nat.le_trans (cnt_le _ _) hn
              refine va_mmax hx hb (X.2.2.1.trans hl.1.symm) X.2.2.2.1 (X.2.2.2.2.1 _ q1085) (X.2.2.2.2.1 _ q380) (X.2.2.2.2.1 _ q120) (X.2.2.2.2.1 _ q381) (Nat.le_of_ble_eq_true rfl) (Nat.le_of_ble_eq_true rfl) (by show 19 ≤ 19; omega) (by show 323 ≤ 323; omega) dX2_bestByTwo_52 ?_
              refine W.stk (w := mxI (nI (tpB (fun i j => twN ro n (((List.range n).filter (toT ro n)).getD i 0) (((List.range n).filter (toT ro n)).getD j 0)) ((List.range n).filter (toT ro n)).length i (tpA (fun i j => twN ro n (((List.range n).filter (toT ro n)).getD i 0) (((List.range n).filter (toT ro n)).getD j 0)) ((List.range n).filter (toT ro n)).length i) j)) (nI (twN ro n (((List.range n).filter (toT ro n)).getD i 0) (((List.range n).filter (toT ro n)).getD (i + j) 0)))) rfl ?_
              refine W.stk (w := (nI (tpB (fun i j => twN ro n (((List.range n).filter (toT ro n)).getD i 0) (((List.range n).filter (toT ro n)).getD j 0)) ((List.range n).filter (toT ro n)).length i (tpA (fun i j => twN ro n (((List.range n).filter (toT ro n)).getD i 0) (((List.range n).filter (toT ro n)).getD j 0)) ((List.range n).filter (toT ro n)).length i) (j + 1)))) (mxI_n (by omega) (by omega)) ?_
              refine lv_istore_n (lv' := [(3, .int _), (2, .ref _), (4, .int _), (5, .int _)]) hx hb dX2_bestByTwo_55 rfl hl (by decide) rfl (fun ls hl => ?_)
              refine lv_iinc (v := nI (i + j + 1)) (lv' := [(5, .int _), (3, .int _), (2, .ref _), (4, .int _)]) hx hb dX2_bestByTwo_56 hl (k := 3) rfl (nI_iinc _ 1 rfl) (by decide) rfl (fun ls hl => ?_)
              refine lv_goto (tgt := 32) hx hb dX2_bestByTwo_59 (by decide) ?_
              exact W.widen (by omega) (by omega) (ih32 (j + 1) (by omega) (by omega) _ hL ls (lv_sub hl [2, 1, 3, 0] rfl))
        exact W.widen (by omega) (by omega) (L32 (((List.range n).filter (toT ro n)).length + 1) 0 (by omega) (by omega) _ hL ls (lv_sub hl [1, 2, 3, 0] rfl))
  exact W.widen (by omega) (by omega) (L21 (((List.range n).filter (toT ro n)).length + 1) 0 (by omega) (by omega) _ hL ls (lv_sub hl [2, 1, 0] rfl))
theorem vb_X2_bestByTwo : VB yX2_bestByTwo cX2_bestByTwo 6 (some .int) 0 := ⟨q1091, q1092, q100, q1093, ⟨by decide, by decide, by decide +kernel⟩⟩
