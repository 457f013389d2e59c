/-! sets of places -/
def lcI (x y : Int64) : Int32 := if x > y then 1 else if x == y then 0 else -1
theorem lcI_0 {x y : Int64} : lcI x y = 0 ↔ x = y := by
  unfold lcI
  by_cases h : x > y
  · rw [if_pos h]
    refine ⟨fun e => absurd e (by decide), fun e => ?_⟩
    rw [e] at h
    exact absurd h (by show ¬ y < y; rw [Int64.lt_iff_toInt_lt]; omega)
  · rw [if_neg h]
    by_cases e : x = y
    · simp [e]
    · rw [if_neg (by simpa using e)]
      exact ⟨fun z => absurd z (by decide), fun z => absurd z e⟩
section LCMP
variable {p : Program} {l : Launch} {e : Env} {R : Room} {s : State} {m : MethodId} {args : Array Value} {below : List Frame} {meth : Method} {c : Code} {H : Heap} {locs : List Loc} {cells slots : Nat} {Q : State → Prop}
variable {cc : ByteArray} {nL pc : Nat} {ls : Array Slot} {y : MethodName} {ret : Option FieldType} {g : GT} {rest : List Value}
theorem r_lcmp {u v : Int64} (X : Cx p g s m args meth c cc nL y ret) (hdg : decode cc pc = .ok (.lcmp, 1)) (k : W p l e R s m args below meth c H locs cells slots Q (F0 m (pc + 1) ls (.int (lcI u v) :: rest))) : W p l e R s m args below meth c H locs cells slots Q (F0 m pc ls (.long v :: .long u :: rest)) := by
  have hx := X.1
  have hb := X.2.1
  intro T hT XT
  obtain ⟨t, a, b⟩ := k T hT XT
  refine ⟨t, ?_, b⟩
  unfold lcI at a
  by_cases h1 : u > v
  · rw [if_pos h1] at a
    jvm_step XT.here [XT.here.top, hx, hb, hdg, h1]
    exact a
  · rw [if_neg h1] at a
    by_cases h2 : (u == v) = true
    · rw [if_pos h2] at a
      jvm_step XT.here [XT.here.top, hx, hb, hdg, h1]
      rw [if_pos (by simpa using h2)]
      exact a
    · rw [if_neg h2] at a
      jvm_step XT.here [XT.here.top, hx, hb, hdg, h1]
      rw [if_neg (by simpa using h2)]
      exact a
end LCMP
theorem upL_s (f : Nat → Int64) (k : Nat) (v : Int64) : vp_updL f k v k = v := by simp [vp_updL]
theorem upL_n (f : Nat → Int64) {k j : Nat} (v : Int64) (h : j ≠ k) : vp_updL f k v j = f j := by simp [vp_updL, h]
theorem msk_step {ro : Nat → Int32} {T A : List Nat} {f : Nat → Int64} {k j : Nat} (h1 : ∀ p, p < k → f p = mskL ro A (T.getD p 0)) (h2 : f k = mkI (fun o => abv ro (nI 15) (T.getD k 0) (A.getD o 0)) j) (hj : j = A.length) : ∀ p, p < k + 1 → f p = mskL ro A (T.getD p 0) := fun p hp => by
  by_cases q : p < k
  · exact h1 p q
  · have e : p = k := (by omega)
    subst e
    rw [h2, hj]; rfl
theorem On.extw {H0 H H1 : Heap} {a : Nat} (h : Ext H0 H) (e : On a H H1) (ha : H0.size ≤ a) : Ext H0 H1 := h.on e ha

set_option maxRecDepth 100000 in
set_option maxHeartbeats 4000000 in
theorem ct_X2_ones (l : Launch) (g : GT) (z : Int64)  : Ct l g yX2_ones cX2_ones 5 (some .int) 1 0 0 [.long z] (fun _ => True) (fun r H H1 => r = some (.int (nI (onesN z))) ∧ H1 = H) := by
  refine Ct.of (by decide) (Nat.le_of_ble_eq_true rfl) ?_
  intro p e s m args below meth c X hP ls hl
  have hx := X.1
  have hb := X.2.1
  have hKV := X.2.2.2.2.2.2.2.1.1
  have hL : ∀ q ∈ ([] : List Loc), gLo g ≤ q.base := fun _ h => by cases h
  have hl : lv_has ls 5 [(0, .long z)] := hl
  have hz64 := ones_le z
  refine lv_iconst (v := nI 0) hx hb dX2_ones_0 (by decide) ?_
  refine lv_istore_n (lv' := [(2, .int _), (0, .long _)]) hx hb dX2_ones_1 rfl hl (by decide) rfl (fun ls hl => ?_)
  refine lv_lload_n hx hb dX2_ones_2 rfl (lv_at hl 1 rfl) ?_
  refine lv_lstore_n (lv' := [(3, .long _), (2, .int _), (0, .long _)]) hx hb dX2_ones_3 rfl hl (by decide) rfl (fun ls hl => ?_)
  have L4 : ∀ (fuel : Nat) (v : Nat) (w : Int64), onesN w < fuel → (v + onesN w = onesN z) → ∀ (locs : List Loc), (∀ q ∈ locs, gLo g ≤ q.base) → ∀ (ls : Array Slot), lv_has ls 5 [(0, .long z), (2, .int (nI v)), (3, .long w)] → W p l e (rmL 1 0 0) s m args below meth c s.heap locs 0 0 (MQ below (Qcg (fun r H H1 => r = some (.int (nI (onesN z))) ∧ H1 = H)) args s 0 0 (fre g)) (F0 m 4 ls []) := by
    intro fuel
    induction fuel with
    | zero => intro v w hfu; exact absurd hfu (Nat.not_lt_zero _)
    | succ fuel ih4 =>
      intro v w hfu hv  locs hL ls hl
      refine lv_lload_n hx hb dX2_ones_4 rfl (lv_at hl 2 rfl) ?_
      refine lv_lconst (v := 0) hx hb dX2_ones_5 (by decide) ?_
      refine r_lcmp X dX2_ones_6 ?_
      refine lv_if_eq (tgt := 22) hx hb dX2_ones_7 (by decide) (fun c_7 => ?_) (fun c_7 => ?_)
      ·
        refine lv_iload_n hx hb dX2_ones_22 rfl (lv_at hl 1 rfl) ?_
        exact r_iret X hL rfl rfl dX2_ones_23 (by omega) (by omega) ⟨by rw [lcI_0.mp c_7, ones_0] at hv; rw [← hv]; rfl, rfl⟩
      ·
        have hnz : w ≠ 0 := fun e => c_7 (lcI_0.mpr e)
        refine lv_iinc (v := nI (v + 1)) (lv' := [(2, .int _), (0, .long _), (3, .long _)]) hx hb dX2_ones_10 hl (k := 1) rfl (nI_iinc _ 1 rfl) (by decide) rfl (fun ls hl => ?_)
        refine lv_lload_n hx hb dX2_ones_13 rfl (lv_at hl 2 rfl) ?_
        refine lv_lload_n hx hb dX2_ones_14 rfl (lv_at hl 2 rfl) ?_
        refine lv_lconst (v := 1) hx hb dX2_ones_15 (by decide) ?_
        refine lv_lsub hx hb dX2_ones_16 ?_
        refine lv_land hx hb dX2_ones_17 ?_
        refine lv_lstore_n (lv' := [(3, .long _), (2, .int _), (0, .long _)]) hx hb dX2_ones_18 rfl hl (by decide) rfl (fun ls hl => ?_)
        refine lv_goto (tgt := 4) hx hb dX2_ones_19 (by decide) ?_
        exact ih4 (v + 1) (w &&& (w - 1)) (by have := ones_step hnz; omega) (by have := ones_step hnz; omega) _ hL ls (lv_sub hl [2, 1, 0] rfl)
  exact L4 (onesN z + 1) 0 z (by omega) (Nat.zero_add _) _ hL ls (lv_sub hl [2, 1, 0] rfl)
theorem sb_X2_ones : SB yX2_ones cX2_ones 5 (some .int) 1 := ⟨q1100, q100, q1101, ⟨by decide, by decide, by decide +kernel⟩⟩

set_option maxRecDepth 100000 in
set_option maxHeartbeats 4000000 in
theorem ct_X2_masks (l : Launch) (g : GT) (ro : Nat → Int32) (a : Nat) (x : Nat → Nat) (T A : List Nat) (tb ab : Nat) (hw : WO (mw ro)) (hLT : T.length ≤ 40) (hLA : A.length ≤ 40) : Ct l g yX2_masks cX2_masks 8 (some (.array .long)) 8 1 40 [.ref a, .ref tb, .ref ab] (fun H => SdQ g ro a H ∧ BgQ g x T tb H ∧ BgQ g x A ab H ∧ OfL g ro x T H ∧ OfL g ro x A H) (fun r H H1 => ∃ (mb : Nat) (f : Nat → Int64), (Al g mb T.length f H1 ∧ H.size ≤ mb ∧ gLo g ≤ mb ∧ ∀ p, p < T.length → f p = mskL ro A (T.getD p 0)) ∧ r = some (.ref mb) ∧ Ext H H1) := by
  refine Ct.of (by decide) (Nat.le_of_ble_eq_true rfl) ?_
  intro p e s m args below meth c X hP ls hl
  have hx := X.1
  have hb := X.2.1
  have hKV := X.2.2.2.2.2.2.2.1.1
  have hL : ∀ q ∈ ([] : List Loc), gLo g ≤ q.base := fun _ h => by cases h
  obtain ⟨⟨sb, sd, PS, v1, v2, ob0, hsd0⟩, ⟨PT, hbT0⟩, ⟨PA, hbA0⟩, hoT0, hoA0⟩ := hP
  have hl : lv_has ls 8 [(0, .ref a), (1, .ref tb), (2, .ref ab)] := hl
  have hE : Ext s.heap s.heap := Ext.rfl'
  have ob := ob0.ext hE
  have hsd := hsd0.ext hE
  have hbT := hbT0.ext hE
  have hbA := hbA0.ext hE
  have hoT := hoT0.ext hE
  have hoA := hoA0.ext hE
  refine lv_aload_n hx hb dX2_masks_0 rfl (lv_at hl 1 rfl) ?_
  refine Cp.callV (v := .int (nI T.length)) (ct_X3_size l g PT (XL x T) T.length tb ) X hL hl vb_X3_size q564 (hbT.recv hKV) rfl rfl (Nat.le_of_ble_eq_true rfl) dX2_masks_1 ⟨Nat.le_of_ble_eq_true rfl, Nat.le_of_ble_eq_true rfl⟩ (by omega) (by omega) hbT (fun locs hL => ?_)
  obtain ⟨b1, hb1⟩ : ∃ b, s.heap.size = b := ⟨_, rfl⟩
  have sz_b1 : s.heap.size ≤ b1 := by rw [← hb1]; exact Nat.le_refl _
  have lo_b1 : gLo g ≤ b1 := Nat.le_trans X.2.2.2.2.2.2.2.1.2.1 sz_b1
  have ne_a_b1 : a ≠ b1 := Nat.ne_of_lt (by rw [← hb1]; exact ob.lt)
  refine r_newa (atype := .long) (k := 3) (ty := .long) X q1102 rfl rfl (fun _ _ => rfl) (x := (nI T.length)) (N' := T.length) (T.length, .inr (.inl (fun _ => 0))) (fun _ => rfl) (nI_pos (by omega)) (nI_clamp (by omega)) (by show T.length * 8 ≤ 536870912; omega) (by show _ + 1 ≤ 1; omega) (by show _ + T.length ≤ 40; omega) dX2_masks_4 (fun H ha_b1 hE_b1 hz_b1 => ?_)
  rw [hb1] at ha_b1 hz_b1 ⊢
  have ob := ob.ext hE_b1
  have hsd := hsd.ext hE_b1
  have hbT := hbT.ext hE_b1
  have hbA := hbA.ext hE_b1
  have hoT := hoT.ext hE_b1
  have hoA := hoA.ext hE_b1
  have ha_b1 : Al g b1  T.length (fun _ => 0) H := ha_b1
  have hE := hE.trans hE_b1
  refine lv_astore_n (lv' := [(3, .ref _), (0, .ref _), (1, .ref _), (2, .ref _)]) hx hb dX2_masks_6 rfl hl (by decide) rfl (fun ls hl => ?_)
  refine lv_iconst (v := nI 0) hx hb dX2_masks_7 (by decide) ?_
  refine lv_istore (lv' := [(4, .int _), (3, .ref _), (0, .ref _), (1, .ref _), (2, .ref _)]) hx hb dX2_masks_8 hl (by decide) rfl (fun ls hl => ?_)
  have L10 : ∀ (fuel : Nat) (k : Nat) (f : Nat → Int64), T.length - k < fuel → (k ≤ T.length) → (∀ p, p < k → f p = mskL ro A (T.getD p 0)) → (∀ p, k ≤ p → f p = 0) → ∀ (H : Heap), Al g b1 T.length f H → Ext s.heap H → ∀ (locs : List Loc), (∀ q ∈ locs, gLo g ≤ q.base) → ∀ (ls : Array Slot), lv_has ls 8 [(0, .ref a), (1, .ref tb), (2, .ref ab), (3, .ref b1), (4, .int (nI k))] → W p l e (rmL 8 1 40) s m args below meth c H locs 1 T.length (MQ below (Qcg (fun r H H1 => ∃ (mb : Nat) (f : Nat → Int64), (Al g mb T.length f H1 ∧ H.size ≤ mb ∧ gLo g ≤ mb ∧ ∀ p, p < T.length → f p = mskL ro A (T.getD p 0)) ∧ r = some (.ref mb) ∧ Ext H H1)) args s 1 40 (fre g)) (F0 m 10 ls []) := by
    intro fuel
    induction fuel with
    | zero => intro k f hfu; exact absurd hfu (Nat.not_lt_zero _)
    | succ fuel ih10 =>
      intro k f hfu hk hf hz H ha_b1 hE locs hL ls hl
      have ob := ob0.ext hE
      have hsd := hsd0.ext hE
      have hbT := hbT0.ext hE
      have hbA := hbA0.ext hE
      have hoT := hoT0.ext hE
      have hoA := hoA0.ext hE
      refine lv_iload hx hb dX2_masks_10 (lv_at hl 4 rfl) ?_
      refine lv_aload_n hx hb dX2_masks_12 rfl (lv_at hl 1 rfl) ?_
      refine Cp.callV (v := .int (nI T.length)) (ct_X3_size l g PT (XL x T) T.length tb ) X hL hl vb_X3_size q564 (hbT.recv hKV) rfl rfl (Nat.le_of_ble_eq_true rfl) dX2_masks_13 ⟨Nat.le_of_ble_eq_true rfl, Nat.le_of_ble_eq_true rfl⟩ (by omega) (by omega) hbT (fun locs hL => ?_)
      refine n_icmp_ge (tgt := 88) X dX2_masks_16 (by decide) (by omega) (by omega) (fun c_16 => ?_) (fun c_16 => ?_)
      ·
        refine lv_aload_n hx hb dX2_masks_88 rfl (lv_at hl 3 rfl) ?_
        exact r_aret X hL rfl (Or.inr ⟨_, rfl⟩) (Or.inr ⟨_, rfl⟩) dX2_masks_89 (by omega) (by omega) ⟨b1, f, ⟨ha_b1, sz_b1, lo_b1, fun p hp => hf p (by omega)⟩, rfl, hE⟩
      ·
        refine lv_iconst (v := nI 0) hx hb dX2_masks_19 (by decide) ?_
        refine lv_istore (lv' := [(5, .int _), (0, .ref _), (1, .ref _), (2, .ref _), (3, .ref _), (4, .int _)]) hx hb dX2_masks_20 hl (by decide) rfl (fun ls hl => ?_)
        have L22 : ∀ (fuel : Nat) (j : Nat) (f2 : Nat → Int64), A.length - j < fuel → (j ≤ A.length) → (∀ p, p < k → f2 p = mskL ro A (T.getD p 0)) → (∀ p, k < p → f2 p = 0) → (f2 k = mkI (fun o => abv ro (nI 15) (T.getD k 0) (A.getD o 0)) j) → ∀ (H : Heap), Al g b1 T.length f2 H → Ext s.heap H → ∀ (locs : List Loc), (∀ q ∈ locs, gLo g ≤ q.base) → ∀ (ls : Array Slot), lv_has ls 8 [(0, .ref a), (1, .ref tb), (2, .ref ab), (3, .ref b1), (4, .int (nI k)), (5, .int (nI j))] → W p l e (rmL 8 1 40) s m args below meth c H locs 1 T.length (MQ below (Qcg (fun r H H1 => ∃ (mb : Nat) (f : Nat → Int64), (Al g mb T.length f H1 ∧ H.size ≤ mb ∧ gLo g ≤ mb ∧ ∀ p, p < T.length → f p = mskL ro A (T.getD p 0)) ∧ r = some (.ref mb) ∧ Ext H H1)) args s 1 40 (fre g)) (F0 m 22 ls []) := by
          intro fuel
          induction fuel with
          | zero => intro j f2 hfu; exact absurd hfu (Nat.not_lt_zero _)
          | succ fuel ih22 =>
            intro j f2 hfu hj hf2 hz2 hk2 H ha_b1 hE locs hL ls hl
            have ob := ob0.ext hE
            have hsd := hsd0.ext hE
            have hbT := hbT0.ext hE
            have hbA := hbA0.ext hE
            have hoT := hoT0.ext hE
            have hoA := hoA0.ext hE
            refine lv_iload hx hb dX2_masks_22 (lv_at hl 5 rfl) ?_
            refine lv_aload_n hx hb dX2_masks_24 rfl (lv_at hl 2 rfl) ?_
            refine Cp.callV (v := .int (nI A.length)) (ct_X3_size l g PA (XL x A) A.length ab ) X hL hl vb_X3_size q564 (hbA.recv hKV) rfl rfl (Nat.le_of_ble_eq_true rfl) dX2_masks_25 ⟨Nat.le_of_ble_eq_true rfl, Nat.le_of_ble_eq_true rfl⟩ (by omega) (by omega) hbA (fun locs hL => ?_)
            refine n_icmp_ge (tgt := 82) X dX2_masks_28 (by decide) (by omega) (by omega) (fun c_28 => ?_) (fun c_28 => ?_)
            ·
              refine lv_iinc (v := nI (k + 1)) (lv' := [(4, .int _), (0, .ref _), (1, .ref _), (2, .ref _), (3, .ref _), (5, .int _)]) hx hb dX2_masks_82 hl (k := 4) rfl (nI_iinc _ 1 rfl) (by decide) rfl (fun ls hl => ?_)
              refine lv_goto (tgt := 10) hx hb dX2_masks_85 (by decide) ?_
              exact W.widen (by omega) (by omega) (ih10 (k + 1) f2 (by omega) (by omega) (msk_step hf2 hk2 (by omega)) (fun p hp => hz2 p (by omega)) _ ha_b1 hE _ hL ls (lv_sub hl [1, 2, 3, 4, 0] rfl))
            ·
              refine lv_aload_n hx hb dX2_masks_31 rfl (lv_at hl 0 rfl) ?_
              refine r_get (C := RX2) (T := TX2) (N := 4) (ci := 2) X in_X2 rfl 1 (Nat.le_of_ble_eq_true rfl) q212 (fun _ h => h) ob rfl dX2_masks_32 ?_
              refine lv_aload_n hx hb dX2_masks_35 rfl (lv_at hl 1 rfl) ?_
              refine lv_iload hx hb dX2_masks_36 (lv_at hl 4 rfl) ?_
              refine Cp.callV (v := .ref (x (T.getD k 0))) (ct_X3_get l g PT (XL x T) T.length tb k (by omega)) X hL hl vb_X3_get q568 (hbT.recv hKV) rfl rfl (Nat.le_of_ble_eq_true rfl) dX2_masks_38 ⟨Nat.le_of_ble_eq_true rfl, Nat.le_of_ble_eq_true rfl⟩ (by omega) (by omega) hbT (fun locs hL => ?_)
              obtain ⟨I1, hq1⟩ := hoT _ (getD_mem (L := T) (k := k) (by omega))
              obtain ⟨fq1, oq1⟩ := OfQ.ob ⟨I1, hq1⟩
              refine r_cast (ci := 5) X rfl oq1 q572 dX2_masks_41 ?_
              refine lv_aload_n hx hb dX2_masks_44 rfl (lv_at hl 2 rfl) ?_
              refine lv_iload hx hb dX2_masks_45 (lv_at hl 5 rfl) ?_
              refine Cp.callV (v := .ref (x (A.getD j 0))) (ct_X3_get l g PA (XL x A) A.length ab j (by omega)) X hL hl vb_X3_get q568 (hbA.recv hKV) rfl rfl (Nat.le_of_ble_eq_true rfl) dX2_masks_47 ⟨Nat.le_of_ble_eq_true rfl, Nat.le_of_ble_eq_true rfl⟩ (by omega) (by omega) hbA (fun locs hL => ?_)
              obtain ⟨I2, hq2⟩ := hoA _ (getD_mem (L := A) (k := j) (by omega))
              obtain ⟨fq2, oq2⟩ := OfQ.ob ⟨I2, hq2⟩
              refine r_cast (ci := 5) X rfl oq2 q572 dX2_masks_50 ?_
              refine lv_bipush (v := nI 15) hx hb dX2_masks_53 (by decide) ?_
              refine Cp.callV (v := .int (bI (beyB (mw ro) (mv ro (T.getD k 0)) (mv ro (A.getD j 0)) (swB (mw ro) (nI 15))))) (ct_X4_isAbove l g PS ro sd I1 (mv ro (T.getD k 0)) (x (T.getD k 0)) I2 (mv ro (A.getD j 0)) (x (A.getD j 0)) (nI 15) hw) X hL hl vb_X4_isAbove q573 (hsd.recv hKV) rfl rfl (Nat.le_of_ble_eq_true rfl) dX2_masks_55 ⟨Nat.le_of_ble_eq_true rfl, Nat.le_of_ble_eq_true rfl⟩ (by omega) (by omega) ⟨hsd, hq1, hq2⟩ (fun locs hL => ?_)
              refine Cp.callSN (v := .int (bI (beyB (mw ro) (mv ro (T.getD k 0)) (mv ro (A.getD j 0)) (swB (mw ro) (nI 15))))) (ct_X1_flag l g (beyB (mw ro) (mv ro (T.getD k 0)) (mv ro (A.getD j 0)) (swB (mw ro) (nI 15))) ) X hL hl sb_X1_flag q1098 rfl rfl (Nat.le_of_ble_eq_true rfl) dX2_masks_58 ⟨Nat.le_of_ble_eq_true rfl, Nat.le_of_ble_eq_true rfl⟩ (by omega) (by omega) trivial (fun locs hL => ?_)
              refine lv_i2l hx hb dX2_masks_61 rfl ?_
              refine lv_lstore (lv' := [(6, .long _), (0, .ref _), (1, .ref _), (2, .ref _), (3, .ref _), (4, .int _), (5, .int _)]) hx hb dX2_masks_62 hl (by decide) rfl (fun ls hl => ?_)
              refine lv_aload_n hx hb dX2_masks_64 rfl (lv_at hl 4 rfl) ?_
              refine lv_iload hx hb dX2_masks_65 (lv_at hl 5 rfl) ?_
              refine lv_dup2_11 hx hb dX2_masks_67 rfl rfl ?_
              refine r_lld X ha_b1 k (nI_cl (by omega) rfl) (nI_nn (by omega) rfl) (by omega) dX2_masks_68 ?_
              refine lv_lload hx hb dX2_masks_69 (lv_at hl 0 rfl) ?_
              refine lv_iload hx hb dX2_masks_71 (lv_at hl 6 rfl) ?_
              refine lv_lshl hx hb dX2_masks_73 rfl ?_
              refine lv_lor hx hb dX2_masks_74 ?_
              refine r_lst X hL ha_b1 lo_b1 k (nI_cl (by omega) rfl) (nI_nn (by omega) rfl) (by omega) dX2_masks_75 (fun H locs hL h1 h2 => ?_)
              have ha_b1 : Al g b1 T.length (vp_updL f2 k ((f2 k) ||| ((bI (beyB (mw ro) (mv ro (T.getD k 0)) (mv ro (A.getD j 0)) (swB (mw ro) (nI 15)))).toInt64 <<< ((nI j).toInt64 &&& 63)))) H := h1
              have ob := ob.on h2 ne_a_b1
              have hE := hE.on h2 sz_b1
              refine lv_iinc (v := nI (j + 1)) (lv' := [(5, .int _), (6, .long _), (0, .ref _), (1, .ref _), (2, .ref _), (3, .ref _), (4, .int _)]) hx hb dX2_masks_76 hl (k := 6) rfl (nI_iinc _ 1 rfl) (by decide) rfl (fun ls hl => ?_)
              refine lv_goto (tgt := 22) hx hb dX2_masks_79 (by decide) ?_
              exact W.widen (by omega) (by omega) (ih22 (j + 1) _ (by omega) (by omega) (fun p hp => by rw [upL_n _ _ (by omega)]; exact hf2 p hp) (fun p hp => by rw [upL_n _ _ (by omega)]; exact hz2 p hp) (by rw [upL_s, hk2]; rfl) _ ha_b1 hE _ hL ls (lv_sub hl [2, 3, 4, 5, 6, 0] rfl))
        exact W.widen (by omega) (by omega) (L22 (A.length + 1) 0 f (by omega) (by omega) hf (fun p hp => hz p (by omega)) (hz k (Nat.le_refl _)) _ ha_b1 hE _ hL ls (lv_sub hl [1, 2, 3, 4, 5, 0] rfl))
  exact W.widen (by omega) (by omega) (L10 (T.length + 1) 0 _ (by omega) (by omega) (fun p hp => absurd hp (Nat.not_lt_zero _)) (fun _ _ => rfl) _ ha_b1 hE _ hL ls (lv_sub hl [2, 3, 4, 1, 0] rfl))
theorem vb_X2_masks : VB yX2_masks cX2_masks 8 (some (.array .long)) 2 := ⟨q1096, qs24, q100, q1097, ⟨by decide, by decide, by decide +kernel⟩⟩

set_option maxRecDepth 100000 in
set_option maxHeartbeats 4000000 in
theorem ct_X2_bestNext (l : Launch) (g : GT) (ma ua n : Nat) (f : Nat → Int64) (u : Nat → Int32) (used : Nat → Bool) (U : Int64) (hn : n ≤ 40) (hu : ∀ p, p < n → u p = bI (used p)) : Ct l g yX2_bestNext cX2_bestNext 8 (some .int) 2 0 0 [.ref ma, .ref ua, .long U] (fun H => Al g ma n f H ∧ Ar g ua 1 n u H) (fun r H H1 => r = some (.int ((bnG (fun p => if used p then (-1) else nI (onesN (f p &&& (U ^^^ (-1))))) n).1)) ∧ H1 = H) := by
  refine Ct.of (by decide) (Nat.le_of_ble_eq_true rfl) ?_
  intro p e s m args below meth c X hP ls hl
  have hx := X.1
  have hb := X.2.1
  have hKV := X.2.2.2.2.2.2.2.1.1
  have hL : ∀ q ∈ ([] : List Loc), gLo g ≤ q.base := fun _ h => by cases h
  obtain ⟨hma, hua⟩ := hP
  have hl : lv_has ls 8 [(0, .ref ma), (1, .ref ua), (2, .long U)] := hl
  refine lv_iconst (v := (-1)) hx hb dX2_bestNext_0 (by decide) ?_
  refine lv_istore (lv' := [(4, .int _), (0, .ref _), (1, .ref _), (2, .long _)]) hx hb dX2_bestNext_1 hl (by decide) rfl (fun ls hl => ?_)
  refine lv_iconst (v := (-1)) hx hb dX2_bestNext_3 (by decide) ?_
  refine lv_istore (lv' := [(5, .int _), (4, .int _), (0, .ref _), (1, .ref _), (2, .long _)]) hx hb dX2_bestNext_4 hl (by decide) rfl (fun ls hl => ?_)
  refine lv_iconst (v := nI 0) hx hb dX2_bestNext_6 (by decide) ?_
  refine lv_istore (lv' := [(6, .int _), (5, .int _), (4, .int _), (0, .ref _), (1, .ref _), (2, .long _)]) hx hb dX2_bestNext_7 hl (by decide) rfl (fun ls hl => ?_)
  have L9 : ∀ (fuel : Nat) (k : Nat), n - k < fuel → (k ≤ n) → ∀ (locs : List Loc), (∀ q ∈ locs, gLo g ≤ q.base) → ∀ (ls : Array Slot), lv_has ls 8 [(0, .ref ma), (1, .ref ua), (2, .long U), (4, .int ((bnG (fun p => if used p then (-1) else nI (onesN (f p &&& (U ^^^ (-1))))) k).1)), (5, .int ((bnG (fun p => if used p then (-1) else nI (onesN (f p &&& (U ^^^ (-1))))) k).2)), (6, .int (nI k))] → W p l e (rmL 2 0 0) s m args below meth c s.heap locs 0 0 (MQ below (Qcg (fun r H H1 => r = some (.int ((bnG (fun p => if used p then (-1) else nI (onesN (f p &&& (U ^^^ (-1))))) n).1)) ∧ H1 = H)) args s 0 0 (fre g)) (F0 m 9 ls []) := by
    intro fuel
    induction fuel with
    | zero => intro k hfu; exact absurd hfu (Nat.not_lt_zero _)
    | succ fuel ih9 =>
      intro k hfu hk  locs hL ls hl
      refine lv_iload hx hb dX2_bestNext_9 (lv_at hl 5 rfl) ?_
      refine lv_aload_n hx hb dX2_bestNext_11 rfl (lv_at hl 0 rfl) ?_
      refine r_len (k := 3) (v := nI n) X hma rfl rfl dX2_bestNext_12 ?_
      refine n_icmp_ge (tgt := 73) X dX2_bestNext_13 (by decide) (by omega) (by omega) (fun c_13 => ?_) (fun c_13 => ?_)
      ·
        refine lv_iload hx hb dX2_bestNext_73 (lv_at hl 3 rfl) ?_
        exact r_iret X hL rfl rfl dX2_bestNext_75 (by omega) (by omega) ⟨by rw [show k = n by omega], rfl⟩
      ·
        refine lv_aload_n hx hb dX2_bestNext_16 rfl (lv_at hl 1 rfl) ?_
        refine lv_iload hx hb dX2_bestNext_17 (lv_at hl 5 rfl) ?_
        refine r_zld X hua k (nI_cl (by omega) rfl) (nI_nn (by omega) rfl) (by omega) dX2_bestNext_19 ?_
        rw [show u k = (bI (used k)) from (hu k (by omega))]
        refine b_ifeq (tgt := 27) X dX2_bestNext_20 (by decide) (fun c_20 => ?_) (fun c_20 => ?_)
        ·
          refine lv_aload_n hx hb dX2_bestNext_27 rfl (lv_at hl 0 rfl) ?_
          refine lv_iload hx hb dX2_bestNext_28 (lv_at hl 5 rfl) ?_
          refine r_lld X hma k (nI_cl (by omega) rfl) (nI_nn (by omega) rfl) (by omega) dX2_bestNext_30 ?_
          refine lv_lload_n hx hb dX2_bestNext_31 rfl (lv_at hl 2 rfl) ?_
          refine lv_ldc2 hx hb X.2.2.2.1 (X.2.2.2.2.1 _ q1248) dX2_bestNext_32 ?_
          refine lv_lxor hx hb dX2_bestNext_35 ?_
          refine lv_land hx hb dX2_bestNext_36 ?_
          refine Cp.callS (v := .int (nI (onesN ((f k) &&& (U ^^^ (-1)))))) (ct_X2_ones l g ((f k) &&& (U ^^^ (-1))) ) X hL hl sb_X2_ones q1099 rfl rfl (Nat.le_of_ble_eq_true rfl) dX2_bestNext_37 ⟨Nat.le_of_ble_eq_true rfl, Nat.le_of_ble_eq_true rfl⟩ (by omega) (by omega) trivial (fun locs hL => ?_)
          refine W.stk (w := ((fun p => if used p then (-1) else nI (onesN (f p &&& (U ^^^ (-1))))) k)) (by simp [c_20]) ?_
          refine lv_istore (lv' := [(7, .int _), (0, .ref _), (1, .ref _), (2, .long _), (4, .int _), (5, .int _), (6, .int _)]) hx hb dX2_bestNext_40 hl (by decide) rfl (fun ls hl => ?_)
          refine lv_iload hx hb dX2_bestNext_42 (lv_at hl 0 rfl) ?_
          refine lv_iload hx hb dX2_bestNext_44 (lv_at hl 5 rfl) ?_
          refine lv_icmp_le (tgt := 54) hx hb dX2_bestNext_46 (by decide) (fun c_46 => ?_) (fun c_46 => ?_)
          ·
            refine lv_iload hx hb dX2_bestNext_54 (lv_at hl 4 rfl) ?_
            refine W.stk (w := ((bnG (fun p => if used p then (-1) else nI (onesN (f p &&& (U ^^^ (-1))))) (k + 1)).1)) (by show _ = (if _ then _ else _); rw [if_neg (nlt_of_le c_46)]) ?_
            refine lv_istore (lv' := [(4, .int _), (7, .int _), (0, .ref _), (1, .ref _), (2, .long _), (5, .int _), (6, .int _)]) hx hb dX2_bestNext_56 hl (by decide) rfl (fun ls hl => ?_)
            refine lv_iload hx hb dX2_bestNext_58 (lv_at hl 5 rfl) ?_
            refine lv_iload hx hb dX2_bestNext_60 (lv_at hl 1 rfl) ?_
            refine va_mmax hx hb (X.2.2.1.trans hl.1.symm) X.2.2.2.1 (X.2.2.2.2.1 _ q1085) (X.2.2.2.2.1 _ q380) (X.2.2.2.2.1 _ q120) (X.2.2.2.2.1 _ q381) (Nat.le_of_ble_eq_true rfl) (Nat.le_of_ble_eq_true rfl) (by show 0 ≤ 0; omega) (by show 0 ≤ 0; omega) dX2_bestNext_62 ?_
            refine W.stk (w := mxI ((bnG (fun p => if used p then (-1) else nI (onesN (f p &&& (U ^^^ (-1))))) k).2) ((fun p => if used p then (-1) else nI (onesN (f p &&& (U ^^^ (-1))))) k)) rfl ?_
            refine W.stk (w := ((bnG (fun p => if used p then (-1) else nI (onesN (f p &&& (U ^^^ (-1))))) (k + 1)).2)) rfl ?_
            refine lv_istore (lv' := [(5, .int _), (4, .int _), (7, .int _), (0, .ref _), (1, .ref _), (2, .long _), (6, .int _)]) hx hb dX2_bestNext_65 hl (by decide) rfl (fun ls hl => ?_)
            refine lv_iinc (v := nI (k + 1)) (lv' := [(6, .int _), (5, .int _), (4, .int _), (7, .int _), (0, .ref _), (1, .ref _), (2, .long _)]) hx hb dX2_bestNext_67 hl (k := 6) rfl (nI_iinc _ 1 rfl) (by decide) rfl (fun ls hl => ?_)
            refine lv_goto (tgt := 9) hx hb dX2_bestNext_70 (by decide) ?_
            exact ih9 (k + 1) (by omega) (by omega) _ hL ls (lv_sub hl [4, 5, 6, 2, 1, 0] rfl)
          ·
            refine lv_iload hx hb dX2_bestNext_49 (lv_at hl 6 rfl) ?_
            refine W.stk (w := ((bnG (fun p => if used p then (-1) else nI (onesN (f p &&& (U ^^^ (-1))))) (k + 1)).1)) (by show _ = (if _ then _ else _); rw [if_pos (lt_of_nle c_46)]) ?_
            refine lv_goto (tgt := 56) hx hb dX2_bestNext_51 (by decide) ?_
            refine lv_istore (lv' := [(4, .int _), (7, .int _), (0, .ref _), (1, .ref _), (2, .long _), (5, .int _), (6, .int _)]) hx hb dX2_bestNext_56 hl (by decide) rfl (fun ls hl => ?_)
            refine lv_iload hx hb dX2_bestNext_58 (lv_at hl 5 rfl) ?_
            refine lv_iload hx hb dX2_bestNext_60 (lv_at hl 1 rfl) ?_
            refine va_mmax hx hb (X.2.2.1.trans hl.1.symm) X.2.2.2.1 (X.2.2.2.2.1 _ q1085) (X.2.2.2.2.1 _ q380) (X.2.2.2.2.1 _ q120) (X.2.2.2.2.1 _ q381) (Nat.le_of_ble_eq_true rfl) (Nat.le_of_ble_eq_true rfl) (by show 0 ≤ 0; omega) (by show 0 ≤ 0; omega) dX2_bestNext_62 ?_
            refine W.stk (w := mxI ((bnG (fun p => if used p then (-1) else nI (onesN (f p &&& (U ^^^ (-1))))) k).2) ((fun p => if used p then (-1) else nI (onesN (f p &&& (U ^^^ (-1))))) k)) rfl ?_
            refine W.stk (w := ((bnG (fun p => if used p then (-1) else nI (onesN (f p &&& (U ^^^ (-1))))) (k + 1)).2)) rfl ?_
            refine lv_istore (lv' := [(5, .int _), (4, .int _), (7, .int _), (0, .ref _), (1, .ref _), (2, .long _), (6, .int _)]) hx hb dX2_bestNext_65 hl (by decide) rfl (fun ls hl => ?_)
            refine lv_iinc (v := nI (k + 1)) (lv' := [(6, .int _), (5, .int _), (4, .int _), (7, .int _), (0, .ref _), (1, .ref _), (2, .long _)]) hx hb dX2_bestNext_67 hl (k := 6) rfl (nI_iinc _ 1 rfl) (by decide) rfl (fun ls hl => ?_)
            refine lv_goto (tgt := 9) hx hb dX2_bestNext_70 (by decide) ?_
            exact ih9 (k + 1) (by omega) (by omega) _ hL ls (lv_sub hl [4, 5, 6, 2, 1, 0] rfl)
        ·
          refine lv_iconst (v := (-1)) hx hb dX2_bestNext_23 (by decide) ?_
          refine W.stk (w := ((fun p => if used p then (-1) else nI (onesN (f p &&& (U ^^^ (-1))))) k)) (by simp [c_20]) ?_
          refine lv_goto (tgt := 40) hx hb dX2_bestNext_24 (by decide) ?_
          refine lv_istore (lv' := [(7, .int _), (0, .ref _), (1, .ref _), (2, .long _), (4, .int _), (5, .int _), (6, .int _)]) hx hb dX2_bestNext_40 hl (by decide) rfl (fun ls hl => ?_)
          refine lv_iload hx hb dX2_bestNext_42 (lv_at hl 0 rfl) ?_
          refine lv_iload hx hb dX2_bestNext_44 (lv_at hl 5 rfl) ?_
          refine lv_icmp_le (tgt := 54) hx hb dX2_bestNext_46 (by decide) (fun c_46 => ?_) (fun c_46 => ?_)
          ·
            refine lv_iload hx hb dX2_bestNext_54 (lv_at hl 4 rfl) ?_
            refine W.stk (w := ((bnG (fun p => if used p then (-1) else nI (onesN (f p &&& (U ^^^ (-1))))) (k + 1)).1)) (by show _ = (if _ then _ else _); rw [if_neg (nlt_of_le c_46)]) ?_
            refine lv_istore (lv' := [(4, .int _), (7, .int _), (0, .ref _), (1, .ref _), (2, .long _), (5, .int _), (6, .int _)]) hx hb dX2_bestNext_56 hl (by decide) rfl (fun ls hl => ?_)
            refine lv_iload hx hb dX2_bestNext_58 (lv_at hl 5 rfl) ?_
            refine lv_iload hx hb dX2_bestNext_60 (lv_at hl 1 rfl) ?_
            refine va_mmax hx hb (X.2.2.1.trans hl.1.symm) X.2.2.2.1 (X.2.2.2.2.1 _ q1085) (X.2.2.2.2.1 _ q380) (X.2.2.2.2.1 _ q120) (X.2.2.2.2.1 _ q381) (Nat.le_of_ble_eq_true rfl) (Nat.le_of_ble_eq_true rfl) (by show 0 ≤ 0; omega) (by show 0 ≤ 0; omega) dX2_bestNext_62 ?_
            refine W.stk (w := mxI ((bnG (fun p => if used p then (-1) else nI (onesN (f p &&& (U ^^^ (-1))))) k).2) ((fun p => if used p then (-1) else nI (onesN (f p &&& (U ^^^ (-1))))) k)) rfl ?_
            refine W.stk (w := ((bnG (fun p => if used p then (-1) else nI (onesN (f p &&& (U ^^^ (-1))))) (k + 1)).2)) rfl ?_
            refine lv_istore (lv' := [(5, .int _), (4, .int _), (7, .int _), (0, .ref _), (1, .ref _), (2, .long _), (6, .int _)]) hx hb dX2_bestNext_65 hl (by decide) rfl (fun ls hl => ?_)
            refine lv_iinc (v := nI (k + 1)) (lv' := [(6, .int _), (5, .int _), (4, .int _), (7, .int _), (0, .ref _), (1, .ref _), (2, .long _)]) hx hb dX2_bestNext_67 hl (k := 6) rfl (nI_iinc _ 1 rfl) (by decide) rfl (fun ls hl => ?_)
            refine lv_goto (tgt := 9) hx hb dX2_bestNext_70 (by decide) ?_
            exact ih9 (k + 1) (by omega) (by omega) _ hL ls (lv_sub hl [4, 5, 6, 2, 1, 0] rfl)
          ·
            refine lv_iload hx hb dX2_bestNext_49 (lv_at hl 6 rfl) ?_
            refine W.stk (w := ((bnG (fun p => if used p then (-1) else nI (onesN (f p &&& (U ^^^ (-1))))) (k + 1)).1)) (by show _ = (if _ then _ else _); rw [if_pos (lt_of_nle c_46)]) ?_
            refine lv_goto (tgt := 56) hx hb dX2_bestNext_51 (by decide) ?_
            refine lv_istore (lv' := [(4, .int _), (7, .int _), (0, .ref _), (1, .ref _), (2, .long _), (5, .int _), (6, .int _)]) hx hb dX2_bestNext_56 hl (by decide) rfl (fun ls hl => ?_)
            refine lv_iload hx hb dX2_bestNext_58 (lv_at hl 5 rfl) ?_
            refine lv_iload hx hb dX2_bestNext_60 (lv_at hl 1 rfl) ?_
            refine va_mmax hx hb (X.2.2.1.trans hl.1.symm) X.2.2.2.1 (X.2.2.2.2.1 _ q1085) (X.2.2.2.2.1 _ q380) (X.2.2.2.2.1 _ q120) (X.2.2.2.2.1 _ q381) (Nat.le_of_ble_eq_true rfl) (Nat.le_of_ble_eq_true rfl) (by show 0 ≤ 0; omega) (by show 0 ≤ 0; omega) dX2_bestNext_62 ?_
            refine W.stk (w := mxI ((bnG (fun p => if used p then (-1) else nI (onesN (f p &&& (U ^^^ (-1))))) k).2) ((fun p => if used p then (-1) else nI (onesN (f p &&& (U ^^^ (-1))))) k)) rfl ?_
            refine W.stk (w := ((bnG (fun p => if used p then (-1) else nI (onesN (f p &&& (U ^^^ (-1))))) (k + 1)).2)) rfl ?_
            refine lv_istore (lv' := [(5, .int _), (4, .int _), (7, .int _), (0, .ref _), (1, .ref _), (2, .long _), (6, .int _)]) hx hb dX2_bestNext_65 hl (by decide) rfl (fun ls hl => ?_)
            refine lv_iinc (v := nI (k + 1)) (lv' := [(6, .int _), (5, .int _), (4, .int _), (7, .int _), (0, .ref _), (1, .ref _), (2, .long _)]) hx hb dX2_bestNext_67 hl (k := 6) rfl (nI_iinc _ 1 rfl) (by decide) rfl (fun ls hl => ?_)
            refine lv_goto (tgt := 9) hx hb dX2_bestNext_70 (by decide) ?_
            exact ih9 (k + 1) (by omega) (by omega) _ hL ls (lv_sub hl [4, 5, 6, 2, 1, 0] rfl)
  exact L9 (n + 1) 0 (by omega) (by omega) _ hL ls (lv_sub hl [3, 4, 5, 2, 1, 0] rfl)
theorem sb_X2_bestNext : SB yX2_bestNext cX2_bestNext 8 (some .int) 3 := ⟨q1246, q100, q1247, ⟨by decide, by decide, by decide +kernel⟩⟩
