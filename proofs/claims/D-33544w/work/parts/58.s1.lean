/-! the system: small methods -/
/-- wishes in range -/
def WO (w : Nat → Int32) : Prop := ∀ q, q < 4 → inB (w q) (nI 0) (nI 2) = true
theorem RO.w {r : Nat → Int32} {n : Nat} (h : RO r n) : WO (mw r) := h.2.1
theorem mat_f {w : Nat → Int32} {q : Nat} (h : w q = nI 2) : matB w q = false := by unfold matB; rw [h]; decide
theorem mat_t {w : Nat → Int32} {q : Nat} (hw : WO w) (hq : q < 4) (h : ¬ w q = nI 2) : matB w q = true := by
  obtain ⟨e, -, h2⟩ := inB_nat (by omega) (by omega) (hw q hq)
  unfold matB
  rw [e] at h ⊢
  rw [nI_eq (by omega) (by omega)] at h
  exact decide_eq_true ((nI_ltI (by omega) (by omega)).mpr (by omega))
theorem bI_and (a b : Bool) : bI a &&& bI b = bI (a && b) := by cases a <;> cases b <;> decide
theorem bI_or (a b : Bool) : bI a ||| bI b = bI (a || b) := by cases a <;> cases b <;> decide
theorem inB_a {v a b : Int32} (h : v < a) : inB v a b = false := by unfold inB; rw [decide_eq_false (nle_of_lt h)]; rfl
theorem inB_b {v a b : Int32} (h : b < v) : inB v a b = false := by unfold inB; rw [decide_eq_false (nle_of_lt h), Bool.and_false]
theorem inB_t {v a b : Int32} (h : ¬ v < a) (h2 : ¬ b < v) : inB v a b = true := by unfold inB; rw [decide_eq_true (le_of_nlt h), decide_eq_true (le_of_nlt h2)]; rfl

set_option maxRecDepth 100000 in
set_option maxHeartbeats 4000000 in
theorem ct_X1_inRange (l : Launch) (g : GT) (v a b : Int32)  : Ct l g yX1_inRange cX1_inRange 3 (some .boolean) 1 0 0 [.int v, .int a, .int b] (fun _ => True) (fun r H H1 => r = some (.int (bI (inB v a b))) ∧ H1 = H) := by
  refine Ct.of (by decide) (Nat.le_of_ble_eq_true rfl) ?_
  intro p e s m args below meth c X hP ls hl
  have hx := X.1
  have hb := X.2.1
  have hKV := X.2.2.2.2.2.2.2.1.1
  have hL : ∀ q ∈ ([] : List Loc), gLo g ≤ q.base := fun _ h => by cases h
  have hl : lv_has ls 3 [(0, .int v), (1, .int a), (2, .int b)] := hl
  refine lv_iload_n hx hb dX1_inRange_0 rfl (lv_at hl 0 rfl) ?_
  refine lv_iload_n hx hb dX1_inRange_1 rfl (lv_at hl 1 rfl) ?_
  refine lv_icmp_lt (tgt := 14) hx hb dX1_inRange_2 (by decide) (fun c_2 => ?_) (fun c_2 => ?_)
  ·
    refine lv_iconst (v := nI 0) hx hb dX1_inRange_14 (by decide) ?_
    exact r_iret X hL rfl rfl dX1_inRange_15 (by omega) (by omega) ⟨v_f (inB_a c_2), rfl⟩
  ·
    refine lv_iload_n hx hb dX1_inRange_5 rfl (lv_at hl 0 rfl) ?_
    refine lv_iload_n hx hb dX1_inRange_6 rfl (lv_at hl 2 rfl) ?_
    refine lv_icmp_gt (tgt := 14) hx hb dX1_inRange_7 (by decide) (fun c_7 => ?_) (fun c_7 => ?_)
    ·
      refine lv_iconst (v := nI 0) hx hb dX1_inRange_14 (by decide) ?_
      exact r_iret X hL rfl rfl dX1_inRange_15 (by omega) (by omega) ⟨v_f (inB_b c_7), rfl⟩
    ·
      refine lv_iconst (v := nI 1) hx hb dX1_inRange_10 (by decide) ?_
      refine lv_goto (tgt := 15) hx hb dX1_inRange_11 (by decide) ?_
      exact r_iret X hL rfl rfl dX1_inRange_15 (by omega) (by omega) ⟨v_t (inB_t c_2 c_7), rfl⟩
theorem sb_X1_inRange : SB yX1_inRange cX1_inRange 3 (some .boolean) 3 := ⟨q543, q99, q544, ⟨by decide, by decide, by decide +kernel⟩⟩

set_option maxRecDepth 100000 in
set_option maxHeartbeats 4000000 in
theorem ct_X1_flag (l : Launch) (g : GT) (b : Bool)  : Ct l g yX1_flag cX1_flag 1 (some .int) 1 0 0 [.int (bI b)] (fun _ => True) (fun r H H1 => r = some (.int (bI b)) ∧ H1 = H) := by
  refine Ct.of (by decide) (Nat.le_of_ble_eq_true rfl) ?_
  intro p e s m args below meth c X hP ls hl
  have hx := X.1
  have hb := X.2.1
  have hKV := X.2.2.2.2.2.2.2.1.1
  have hL : ∀ q ∈ ([] : List Loc), gLo g ≤ q.base := fun _ h => by cases h
  have hl : lv_has ls 1 [(0, .int (bI b))] := hl
  refine lv_iload_n hx hb dX1_flag_0 rfl (lv_at hl 0 rfl) ?_
  refine b_ifeq (tgt := 8) X dX1_flag_1 (by decide) (fun c_1 => ?_) (fun c_1 => ?_)
  ·
    refine lv_iconst (v := nI 0) hx hb dX1_flag_8 (by decide) ?_
    exact r_iret X hL rfl rfl dX1_flag_9 (by omega) (by omega) ⟨v_f c_1, rfl⟩
  ·
    refine lv_iconst (v := nI 1) hx hb dX1_flag_4 (by decide) ?_
    refine lv_goto (tgt := 9) hx hb dX1_flag_5 (by decide) ?_
    exact r_iret X hL rfl rfl dX1_flag_9 (by omega) (by omega) ⟨v_t c_1, rfl⟩
theorem sb_X1_flag : SB yX1_flag cX1_flag 1 (some .int) 1 := ⟨q593, q99, q594, ⟨by decide, by decide, by decide +kernel⟩⟩

set_option maxRecDepth 100000 in
set_option maxHeartbeats 4000000 in
theorem ct_X1_has (l : Launch) (g : GT) (t : Int32) (q : Nat) (hq : q < 32) : Ct l g yX1_has cX1_has 2 (some .boolean) 1 0 0 [.int t, .int (nI q)] (fun _ => True) (fun r H H1 => r = some (.int (bI (hasB t q))) ∧ H1 = H) := by
  refine Ct.of (by decide) (Nat.le_of_ble_eq_true rfl) ?_
  intro p e s m args below meth c X hP ls hl
  have hx := X.1
  have hb := X.2.1
  have hKV := X.2.2.2.2.2.2.2.1.1
  have hL : ∀ q ∈ ([] : List Loc), gLo g ≤ q.base := fun _ h => by cases h
  have hl : lv_has ls 2 [(0, .int t), (1, .int (nI q))] := hl
  refine lv_iload_n hx hb dX1_has_0 rfl (lv_at hl 0 rfl) ?_
  refine lv_iload_n hx hb dX1_has_1 rfl (lv_at hl 1 rfl) ?_
  refine lv_ishr hx hb dX1_has_2 ?_
  refine lv_iconst (v := nI 1) hx hb dX1_has_3 (by decide) ?_
  refine lv_iand hx hb dX1_has_4 ?_
  refine lv_iconst (v := nI 1) hx hb dX1_has_5 (by decide) ?_
  refine lv_icmp_ne (tgt := 13) hx hb dX1_has_6 (by decide) (fun c_6 => ?_) (fun c_6 => ?_)
  ·
    refine lv_iconst (v := nI 0) hx hb dX1_has_13 (by decide) ?_
    exact r_iret X hL rfl rfl dX1_has_14 (by omega) (by omega) ⟨v_f (by unfold hasB; exact decide_eq_false c_6), rfl⟩
  ·
    refine lv_iconst (v := nI 1) hx hb dX1_has_9 (by decide) ?_
    refine lv_goto (tgt := 14) hx hb dX1_has_10 (by decide) ?_
    exact r_iret X hL rfl rfl dX1_has_14 (by omega) (by omega) ⟨v_t (by unfold hasB; first | exact decide_eq_true c_6 | exact decide_eq_true (Classical.byContradiction c_6)), rfl⟩
theorem sb_X1_has : SB yX1_has cX1_has 2 (some .boolean) 2 := ⟨q582, q99, q583, ⟨by decide, by decide, by decide +kernel⟩⟩

set_option maxRecDepth 100000 in
set_option maxHeartbeats 4000000 in
theorem ct_X1_isSide (l : Launch) (g : GT) (v : Int32)  : Ct l g yX1_isSide cX1_isSide 1 (some .boolean) 2 0 0 [.int v] (fun _ => True) (fun r H H1 => r = some (.int (bI (inB v (nI 0) (nI 3)))) ∧ H1 = H) := by
  refine Ct.of (by decide) (Nat.le_of_ble_eq_true rfl) ?_
  intro p e s m args below meth c X hP ls hl
  have hx := X.1
  have hb := X.2.1
  have hKV := X.2.2.2.2.2.2.2.1.1
  have hL : ∀ q ∈ ([] : List Loc), gLo g ≤ q.base := fun _ h => by cases h
  have hl : lv_has ls 1 [(0, .int v)] := hl
  refine lv_iload_n hx hb dX1_isSide_0 rfl (lv_at hl 0 rfl) ?_
  refine lv_iconst (v := nI 0) hx hb dX1_isSide_1 (by decide) ?_
  refine lv_iconst (v := nI 3) hx hb dX1_isSide_2 (by decide) ?_
  refine Cp.callS (v := .int (bI (inB v (nI 0) (nI 3)))) (ct_X1_inRange l g v (nI 0) (nI 3) ) X hL hl sb_X1_inRange q1322 rfl rfl (Nat.le_of_ble_eq_true rfl) dX1_isSide_3 ⟨Nat.le_of_ble_eq_true rfl, Nat.le_of_ble_eq_true rfl⟩ (by omega) (by omega) trivial (fun locs hL => ?_)
  exact r_iret X hL rfl (narrow_bI _) dX1_isSide_6 (by omega) (by omega) ⟨rfl, rfl⟩
theorem sb_X1_isSide : SB yX1_isSide cX1_isSide 1 (some .boolean) 1 := ⟨q1408, q99, q1409, ⟨by decide, by decide, by decide +kernel⟩⟩

set_option maxRecDepth 100000 in
set_option maxHeartbeats 4000000 in
theorem ct_X1_isValue (l : Launch) (g : GT) (v : Int32)  : Ct l g yX1_isValue cX1_isValue 1 (some .boolean) 2 0 0 [.int v] (fun _ => True) (fun r H H1 => r = some (.int (bI (inB v (nI 0) (nI 99)))) ∧ H1 = H) := by
  refine Ct.of (by decide) (Nat.le_of_ble_eq_true rfl) ?_
  intro p e s m args below meth c X hP ls hl
  have hx := X.1
  have hb := X.2.1
  have hKV := X.2.2.2.2.2.2.2.1.1
  have hL : ∀ q ∈ ([] : List Loc), gLo g ≤ q.base := fun _ h => by cases h
  have hl : lv_has ls 1 [(0, .int v)] := hl
  refine lv_iload_n hx hb dX1_isValue_0 rfl (lv_at hl 0 rfl) ?_
  refine lv_iconst (v := nI 0) hx hb dX1_isValue_1 (by decide) ?_
  refine lv_bipush (v := nI 99) hx hb dX1_isValue_2 (by decide) ?_
  refine Cp.callS (v := .int (bI (inB v (nI 0) (nI 99)))) (ct_X1_inRange l g v (nI 0) (nI 99) ) X hL hl sb_X1_inRange q1322 rfl rfl (Nat.le_of_ble_eq_true rfl) dX1_isValue_4 ⟨Nat.le_of_ble_eq_true rfl, Nat.le_of_ble_eq_true rfl⟩ (by omega) (by omega) trivial (fun locs hL => ?_)
  exact r_iret X hL rfl (narrow_bI _) dX1_isValue_7 (by omega) (by omega) ⟨rfl, rfl⟩
theorem sb_X1_isValue : SB yX1_isValue cX1_isValue 1 (some .boolean) 1 := ⟨q1320, q99, q1321, ⟨by decide, by decide, by decide +kernel⟩⟩

set_option maxRecDepth 100000 in
set_option maxHeartbeats 4000000 in
theorem ct_X1_isSlot (l : Launch) (g : GT) (v : Int32)  : Ct l g yX1_isSlot cX1_isSlot 1 (some .boolean) 2 0 0 [.int v] (fun _ => True) (fun r H H1 => r = some (.int (bI (inB v (nI 0) (nI 1)))) ∧ H1 = H) := by
  refine Ct.of (by decide) (Nat.le_of_ble_eq_true rfl) ?_
  intro p e s m args below meth c X hP ls hl
  have hx := X.1
  have hb := X.2.1
  have hKV := X.2.2.2.2.2.2.2.1.1
  have hL : ∀ q ∈ ([] : List Loc), gLo g ≤ q.base := fun _ h => by cases h
  have hl : lv_has ls 1 [(0, .int v)] := hl
  refine lv_iload_n hx hb dX1_isSlot_0 rfl (lv_at hl 0 rfl) ?_
  refine lv_iconst (v := nI 0) hx hb dX1_isSlot_1 (by decide) ?_
  refine lv_iconst (v := nI 1) hx hb dX1_isSlot_2 (by decide) ?_
  refine Cp.callS (v := .int (bI (inB v (nI 0) (nI 1)))) (ct_X1_inRange l g v (nI 0) (nI 1) ) X hL hl sb_X1_inRange q1322 rfl rfl (Nat.le_of_ble_eq_true rfl) dX1_isSlot_3 ⟨Nat.le_of_ble_eq_true rfl, Nat.le_of_ble_eq_true rfl⟩ (by omega) (by omega) trivial (fun locs hL => ?_)
  exact r_iret X hL rfl (narrow_bI _) dX1_isSlot_6 (by omega) (by omega) ⟨rfl, rfl⟩
theorem sb_X1_isSlot : SB yX1_isSlot cX1_isSlot 1 (some .boolean) 1 := ⟨q1517, q99, q1518, ⟨by decide, by decide, by decide +kernel⟩⟩

set_option maxRecDepth 100000 in
set_option maxHeartbeats 4000000 in
theorem ct_X1_areValues (l : Launch) (g : GT) (a b q t : Int32)  : Ct l g yX1_areValues cX1_areValues 4 (some .boolean) 3 0 0 [.int a, .int b, .int q, .int t] (fun _ => True) (fun r H H1 => r = some (.int (bI (!noVs a b q t))) ∧ H1 = H) := by
  refine Ct.of (by decide) (Nat.le_of_ble_eq_true rfl) ?_
  intro p e s m args below meth c X hP ls hl
  have hx := X.1
  have hb := X.2.1
  have hKV := X.2.2.2.2.2.2.2.1.1
  have hL : ∀ q ∈ ([] : List Loc), gLo g ≤ q.base := fun _ h => by cases h
  have hl : lv_has ls 4 [(0, .int a), (1, .int b), (2, .int q), (3, .int t)] := hl
  refine lv_iload_n hx hb dX1_areValues_0 rfl (lv_at hl 0 rfl) ?_
  refine Cp.callS (v := .int (bI (inB a (nI 0) (nI 99)))) (ct_X1_isValue l g a ) X hL hl sb_X1_isValue q1319 rfl rfl (Nat.le_of_ble_eq_true rfl) dX1_areValues_1 ⟨Nat.le_of_ble_eq_true rfl, Nat.le_of_ble_eq_true rfl⟩ (by omega) (by omega) trivial (fun locs hL => ?_)
  refine b_ifeq (tgt := 32) X dX1_areValues_4 (by decide) (fun c_4 => ?_) (fun c_4 => ?_)
  ·
    refine lv_iconst (v := nI 0) hx hb dX1_areValues_32 (by decide) ?_
    exact r_iret X hL rfl rfl dX1_areValues_33 (by omega) (by omega) ⟨v_f (by unfold noVs; simp [c_4]), rfl⟩
  ·
    refine lv_iload_n hx hb dX1_areValues_7 rfl (lv_at hl 1 rfl) ?_
    refine Cp.callS (v := .int (bI (inB b (nI 0) (nI 99)))) (ct_X1_isValue l g b ) X hL hl sb_X1_isValue q1319 rfl rfl (Nat.le_of_ble_eq_true rfl) dX1_areValues_8 ⟨Nat.le_of_ble_eq_true rfl, Nat.le_of_ble_eq_true rfl⟩ (by omega) (by omega) trivial (fun locs hL => ?_)
    refine b_ifeq (tgt := 32) X dX1_areValues_11 (by decide) (fun c_11 => ?_) (fun c_11 => ?_)
    ·
      refine lv_iconst (v := nI 0) hx hb dX1_areValues_32 (by decide) ?_
      exact r_iret X hL rfl rfl dX1_areValues_33 (by omega) (by omega) ⟨v_f (by unfold noVs; simp [c_4, c_11]), rfl⟩
    ·
      refine lv_iload_n hx hb dX1_areValues_14 rfl (lv_at hl 2 rfl) ?_
      refine Cp.callS (v := .int (bI (inB q (nI 0) (nI 99)))) (ct_X1_isValue l g q ) X hL hl sb_X1_isValue q1319 rfl rfl (Nat.le_of_ble_eq_true rfl) dX1_areValues_15 ⟨Nat.le_of_ble_eq_true rfl, Nat.le_of_ble_eq_true rfl⟩ (by omega) (by omega) trivial (fun locs hL => ?_)
      refine b_ifeq (tgt := 32) X dX1_areValues_18 (by decide) (fun c_18 => ?_) (fun c_18 => ?_)
      ·
        refine lv_iconst (v := nI 0) hx hb dX1_areValues_32 (by decide) ?_
        exact r_iret X hL rfl rfl dX1_areValues_33 (by omega) (by omega) ⟨v_f (by unfold noVs; simp [c_4, c_11, c_18]), rfl⟩
      ·
        refine lv_iload_n hx hb dX1_areValues_21 rfl (lv_at hl 3 rfl) ?_
        refine Cp.callS (v := .int (bI (inB t (nI 0) (nI 99)))) (ct_X1_isValue l g t ) X hL hl sb_X1_isValue q1319 rfl rfl (Nat.le_of_ble_eq_true rfl) dX1_areValues_22 ⟨Nat.le_of_ble_eq_true rfl, Nat.le_of_ble_eq_true rfl⟩ (by omega) (by omega) trivial (fun locs hL => ?_)
        refine b_ifeq (tgt := 32) X dX1_areValues_25 (by decide) (fun c_25 => ?_) (fun c_25 => ?_)
        ·
          refine lv_iconst (v := nI 0) hx hb dX1_areValues_32 (by decide) ?_
          exact r_iret X hL rfl rfl dX1_areValues_33 (by omega) (by omega) ⟨v_f (by unfold noVs; simp [c_4, c_11, c_18, c_25]), rfl⟩
        ·
          refine lv_iconst (v := nI 1) hx hb dX1_areValues_28 (by decide) ?_
          refine lv_goto (tgt := 33) hx hb dX1_areValues_29 (by decide) ?_
          exact r_iret X hL rfl rfl dX1_areValues_33 (by omega) (by omega) ⟨v_t (by unfold noVs; simp [c_4, c_11, c_18, c_25]), rfl⟩
theorem sb_X1_areValues : SB yX1_areValues cX1_areValues 4 (some .boolean) 4 := ⟨q1317, q99, q1318, ⟨by decide, by decide, by decide +kernel⟩⟩

theorem rds {g : GT} {P : Nat → Prop} {r : Nat → Int32} {a : Nat} {H : Heap} (h : SidR g P r a H) : ∃ a1 a2 a3 a4, Ob g a 4 [.ref a1, .ref a2, .ref a3, .ref a4] H ∧ Ar g a1 0 4 (mw r) H ∧ Ar g a2 0 4 (mle r) H ∧ Ar g a3 0 4 (mgr r) H ∧ Ar g a4 0 4 (mwe r) H := by
  obtain ⟨a1, a2, a3, a4, h1, h2, h3, h4⟩ := h
  exact ⟨a1, a2, a3, a4, h4⟩
theorem rdo {g : GT} {I : Nat → Prop} {f : Nat → Int32} {a : Nat} {H : Heap} (h : OffR g I f a H) : ∃ v, Ob g a 5 [.ref v] H ∧ Ar g v 0 4 f H := by
  obtain ⟨v, h1, h2, h3, h4, h5⟩ := h
  exact ⟨v, h5⟩

set_option maxRecDepth 100000 in
set_option maxHeartbeats 4000000 in
theorem ct_X4_matters (l : Launch) (g : GT) (P : Nat → Prop) (ro : Nat → Int32) (a : Nat) (q : Nat) (hw : WO (mw ro)) (hq : q < 4) : Ct l g yX4_matters cX4_matters 2 (some .boolean) 1 0 0 [.ref a, .int (nI q)] (fun H => SidR g P ro a H) (fun r H H1 => r = some (.int (bI (matB (mw ro) q))) ∧ H1 = H) := by
  refine Ct.of (by decide) (Nat.le_of_ble_eq_true rfl) ?_
  intro p e s m args below meth c X hP ls hl
  have hx := X.1
  have hb := X.2.1
  have hKV := X.2.2.2.2.2.2.2.1.1
  have hL : ∀ q ∈ ([] : List Loc), gLo g ≤ q.base := fun _ h => by cases h
  have hs := hP
  obtain ⟨a1, a2, a3, a4, o0, w1, w2, w3, w4⟩ := rds hs
  have hl : lv_has ls 2 [(0, .ref a), (1, .int (nI q))] := hl
  refine lv_aload_n hx hb dX4_matters_0 rfl (lv_at hl 0 rfl) ?_
  refine r_get (C := RX4) (T := TX4) (N := 4) (ci := 4) X in_X4 rfl 0 (Nat.le_of_ble_eq_true rfl) q189 (fun _ h => h) o0 rfl dX4_matters_1 ?_
  refine lv_iload_n hx hb dX4_matters_4 rfl (lv_at hl 1 rfl) ?_
  refine r_ild X w1 q (nI_cl (by omega) rfl) (nI_nn (by omega) rfl) hq dX4_matters_5 ?_
  refine lv_iconst (v := nI 2) hx hb dX4_matters_6 (by decide) ?_
  refine lv_icmp_eq (tgt := 14) hx hb dX4_matters_7 (by decide) (fun c_7 => ?_) (fun c_7 => ?_)
  ·
    refine lv_iconst (v := nI 0) hx hb dX4_matters_14 (by decide) ?_
    exact r_iret X hL rfl rfl dX4_matters_15 (by omega) (by omega) ⟨v_f (mat_f c_7), rfl⟩
  ·
    refine lv_iconst (v := nI 1) hx hb dX4_matters_10 (by decide) ?_
    refine lv_goto (tgt := 15) hx hb dX4_matters_11 (by decide) ?_
    exact r_iret X hL rfl rfl dX4_matters_15 (by omega) (by omega) ⟨v_t (mat_t hw hq c_7), rfl⟩
theorem vb_X4_matters : VB yX4_matters cX4_matters 2 (some .boolean) 1 := ⟨q585, q586, q105, q587, ⟨by decide, by decide, by decide +kernel⟩⟩

set_option maxRecDepth 100000 in
set_option maxHeartbeats 4000000 in
theorem ct_X4_good (l : Launch) (g : GT) (P : Nat → Prop) (ro : Nat → Int32) (a : Nat) (I1 : Nat → Prop) (f1 : Nat → Int32) (x1 : Nat) (q : Nat) (hq : q < 4) : Ct l g yX4_good cX4_good 3 (some .int) 1 0 0 [.ref a, .ref x1, .int (nI q)] (fun H => SidR g P ro a H ∧ OffR g I1 f1 x1 H) (fun r H H1 => r = some (.int (goodI (mw ro) f1 q)) ∧ H1 = H) := by
  refine Ct.of (by decide) (Nat.le_of_ble_eq_true rfl) ?_
  intro p e s m args below meth c X hP ls hl
  have hx := X.1
  have hb := X.2.1
  have hKV := X.2.2.2.2.2.2.2.1.1
  have hL : ∀ q ∈ ([] : List Loc), gLo g ≤ q.base := fun _ h => by cases h
  obtain ⟨hs, ho1⟩ := hP
  obtain ⟨a1, a2, a3, a4, o0, w1, w2, w3, w4⟩ := rds hs
  obtain ⟨v1, ov1, av1⟩ := rdo ho1
  have hl : lv_has ls 3 [(0, .ref a), (1, .ref x1), (2, .int (nI q))] := hl
  refine lv_aload_n hx hb dX4_good_0 rfl (lv_at hl 0 rfl) ?_
  refine r_get (C := RX4) (T := TX4) (N := 4) (ci := 4) X in_X4 rfl 0 (Nat.le_of_ble_eq_true rfl) q189 (fun _ h => h) o0 rfl dX4_good_1 ?_
  refine lv_iload_n hx hb dX4_good_4 rfl (lv_at hl 2 rfl) ?_
  refine r_ild X w1 q (nI_cl (by omega) rfl) (nI_nn (by omega) rfl) (by omega) dX4_good_5 ?_
  refine lv_iconst (v := nI 1) hx hb dX4_good_6 (by decide) ?_
  refine lv_icmp_ne (tgt := 19) hx hb dX4_good_7 (by decide) (fun c_7 => ?_) (fun c_7 => ?_)
  ·
    refine lv_bipush (v := nI 99) hx hb dX4_good_19 (by decide) ?_
    refine lv_aload_n hx hb dX4_good_21 rfl (lv_at hl 1 rfl) ?_
    refine r_getN (C := RX6) (T := TX6) (N := 1) (ci := 5) X in_X6 rfl 0 (Nat.le_of_ble_eq_true rfl) q1355 (fun _ h => h) ov1 rfl dX4_good_22 ?_
    refine lv_iload_n hx hb dX4_good_25 rfl (lv_at hl 2 rfl) ?_
    refine r_ild X av1 q (nI_cl (by omega) rfl) (nI_nn (by omega) rfl) (by omega) dX4_good_26 ?_
    refine lv_isub hx hb dX4_good_27 ?_
    exact r_iret X hL rfl rfl dX4_good_28 (by omega) (by omega) ⟨v_i (by unfold goodI; simp [c_7]), rfl⟩
  ·
    refine lv_aload_n hx hb dX4_good_10 rfl (lv_at hl 1 rfl) ?_
    refine r_getN (C := RX6) (T := TX6) (N := 1) (ci := 5) X in_X6 rfl 0 (Nat.le_of_ble_eq_true rfl) q1355 (fun _ h => h) ov1 rfl dX4_good_11 ?_
    refine lv_iload_n hx hb dX4_good_14 rfl (lv_at hl 2 rfl) ?_
    refine r_ild X av1 q (nI_cl (by omega) rfl) (nI_nn (by omega) rfl) (by omega) dX4_good_15 ?_
    refine lv_goto (tgt := 28) hx hb dX4_good_16 (by decide) ?_
    exact r_iret X hL rfl rfl dX4_good_28 (by omega) (by omega) ⟨v_i (by unfold goodI; simp [c_7]), rfl⟩
theorem vb_X4_good : VB yX4_good cX4_good 3 (some .int) 2 := ⟨q589, q590, q105, q591, ⟨by decide, by decide, by decide +kernel⟩⟩

set_option maxRecDepth 100000 in
set_option maxHeartbeats 4000000 in
theorem ct_X4_isWithin (l : Launch) (g : GT) (P : Nat → Prop) (ro : Nat → Int32) (a : Nat) (q : Nat) (v : Int32) (hq : q < 4) : Ct l g yX4_isWithin cX4_isWithin 3 (some .boolean) 2 0 0 [.ref a, .int (nI q), .int v] (fun H => SidR g P ro a H) (fun r H H1 => r = some (.int (bI (inB v (mle ro q) (mgr ro q)))) ∧ H1 = H) := by
  refine Ct.of (by decide) (Nat.le_of_ble_eq_true rfl) ?_
  intro p e s m args below meth c X hP ls hl
  have hx := X.1
  have hb := X.2.1
  have hKV := X.2.2.2.2.2.2.2.1.1
  have hL : ∀ q ∈ ([] : List Loc), gLo g ≤ q.base := fun _ h => by cases h
  have hs := hP
  obtain ⟨a1, a2, a3, a4, o0, w1, w2, w3, w4⟩ := rds hs
  have hl : lv_has ls 3 [(0, .ref a), (1, .int (nI q)), (2, .int v)] := hl
  refine lv_iload_n hx hb dX4_isWithin_0 rfl (lv_at hl 2 rfl) ?_
  refine lv_aload_n hx hb dX4_isWithin_1 rfl (lv_at hl 0 rfl) ?_
  refine r_get (C := RX4) (T := TX4) (N := 4) (ci := 4) X in_X4 rfl 1 (Nat.le_of_ble_eq_true rfl) q192 (fun _ h => h) o0 rfl dX4_isWithin_2 ?_
  refine lv_iload_n hx hb dX4_isWithin_5 rfl (lv_at hl 1 rfl) ?_
  refine r_ild X w2 q (nI_cl (by omega) rfl) (nI_nn (by omega) rfl) (by omega) dX4_isWithin_6 ?_
  refine lv_aload_n hx hb dX4_isWithin_7 rfl (lv_at hl 0 rfl) ?_
  refine r_get (C := RX4) (T := TX4) (N := 4) (ci := 4) X in_X4 rfl 2 (Nat.le_of_ble_eq_true rfl) q195 (fun _ h => h) o0 rfl dX4_isWithin_8 ?_
  refine lv_iload_n hx hb dX4_isWithin_11 rfl (lv_at hl 1 rfl) ?_
  refine r_ild X w3 q (nI_cl (by omega) rfl) (nI_nn (by omega) rfl) (by omega) dX4_isWithin_12 ?_
  refine Cp.callSN (v := .int (bI (inB v ((mle ro) q) ((mgr ro) q)))) (ct_X1_inRange l g v ((mle ro) q) ((mgr ro) q) ) X hL hl sb_X1_inRange q542 rfl rfl (Nat.le_of_ble_eq_true rfl) dX4_isWithin_13 ⟨Nat.le_of_ble_eq_true rfl, Nat.le_of_ble_eq_true rfl⟩ (by omega) (by omega) trivial (fun locs hL => ?_)
  exact r_iret X hL rfl (narrow_bI _) dX4_isWithin_16 (by omega) (by omega) ⟨rfl, rfl⟩
theorem vb_X4_isWithin : VB yX4_isWithin cX4_isWithin 3 (some .boolean) 2 := ⟨q539, q540, q105, q541, ⟨by decide, by decide, by decide +kernel⟩⟩

set_option maxRecDepth 100000 in
set_option maxHeartbeats 4000000 in
theorem ct_X4_counts (l : Launch) (g : GT) (P : Nat → Prop) (ro : Nat → Int32) (a : Nat) (I1 : Nat → Prop) (f1 : Nat → Int32) (x1 : Nat)  : Ct l g yX4_counts cX4_counts 4 (some .boolean) 3 0 0 [.ref a, .ref x1] (fun H => SidR g P ro a H ∧ OffR g I1 f1 x1 H) (fun r H H1 => r = some (.int (bI (couB (mle ro) (mgr ro) f1))) ∧ H1 = H) := by
  refine Ct.of (by decide) (Nat.le_of_ble_eq_true rfl) ?_
  intro p e s m args below meth c X hP ls hl
  have hx := X.1
  have hb := X.2.1
  have hKV := X.2.2.2.2.2.2.2.1.1
  have hL : ∀ q ∈ ([] : List Loc), gLo g ≤ q.base := fun _ h => by cases h
  obtain ⟨hs, ho1⟩ := hP
  obtain ⟨a1, a2, a3, a4, o0, w1, w2, w3, w4⟩ := rds hs
  obtain ⟨v1, ov1, av1⟩ := rdo ho1
  have hl : lv_has ls 4 [(0, .ref a), (1, .ref x1)] := hl
  refine lv_iconst (v := nI 1) hx hb dX4_counts_0 (by decide) ?_
  refine lv_istore_n (lv' := [(2, .int _), (0, .ref _), (1, .ref _)]) hx hb dX4_counts_1 rfl hl (by decide) rfl (fun ls hl => ?_)
  refine lv_iconst (v := nI 0) hx hb dX4_counts_2 (by decide) ?_
  refine lv_istore_n (lv' := [(3, .int _), (2, .int _), (0, .ref _), (1, .ref _)]) hx hb dX4_counts_3 rfl hl (by decide) rfl (fun ls hl => ?_)
  have L4 : ∀ (fuel : Nat) (k : Nat), 4 - k < fuel → (k ≤ 4) → ∀ (locs : List Loc), (∀ q ∈ locs, gLo g ≤ q.base) → ∀ (ls : Array Slot), lv_has ls 4 [(0, .ref a), (1, .ref x1), (2, .int (bI (allB (fun s => inB (f1 s) (mle ro s) (mgr ro s)) k))), (3, .int (nI k))] → W p l e (rmL 3 0 0) s m args below meth c s.heap locs 0 0 (MQ below (Qcg (fun r H H1 => r = some (.int (bI (couB (mle ro) (mgr ro) f1))) ∧ H1 = H)) args s 0 0 (fre g)) (F0 m 4 ls []) := by
    intro fuel
    induction fuel with
    | zero => intro k hfu; exact absurd hfu (Nat.not_lt_zero _)
    | succ fuel ih4 =>
      intro k hfu hk  locs hL ls hl
      refine lv_iload_n hx hb dX4_counts_4 rfl (lv_at hl 3 rfl) ?_
      refine lv_iconst (v := nI 4) hx hb dX4_counts_5 (by decide) ?_
      refine n_icmp_ge (tgt := 29) X dX4_counts_6 (by decide) (by omega) (by omega) (fun c_6 => ?_) (fun c_6 => ?_)
      ·
        refine lv_iload_n hx hb dX4_counts_29 rfl (lv_at hl 2 rfl) ?_
        exact r_iret X hL rfl (narrow_bI _) dX4_counts_30 (by omega) (by omega) ⟨by have e4 : k = 4 := (by omega); subst e4; rfl, rfl⟩
      ·
        refine lv_iload_n hx hb dX4_counts_9 rfl (lv_at hl 2 rfl) ?_
        refine lv_aload_n hx hb dX4_counts_10 rfl (lv_at hl 0 rfl) ?_
        refine lv_iload_n hx hb dX4_counts_11 rfl (lv_at hl 3 rfl) ?_
        refine lv_aload_n hx hb dX4_counts_12 rfl (lv_at hl 1 rfl) ?_
        refine r_getN (C := RX6) (T := TX6) (N := 1) (ci := 5) X in_X6 rfl 0 (Nat.le_of_ble_eq_true rfl) q1355 (fun _ h => h) ov1 rfl dX4_counts_13 ?_
        refine lv_iload_n hx hb dX4_counts_16 rfl (lv_at hl 3 rfl) ?_
        refine r_ild X av1 k (nI_cl (by omega) rfl) (nI_nn (by omega) rfl) (by omega) dX4_counts_17 ?_
        refine Cp.callV (v := .int (bI (inB (f1 k) (mle ro k) (mgr ro k)))) (ct_X4_isWithin l g P ro a k (f1 k) (by omega)) X hL hl vb_X4_isWithin q538 (o0.recv hKV rfl) rfl rfl (Nat.le_of_ble_eq_true rfl) dX4_counts_18 ⟨Nat.le_of_ble_eq_true rfl, Nat.le_of_ble_eq_true rfl⟩ (by omega) (by omega) hs (fun locs hL => ?_)
        refine lv_iand hx hb dX4_counts_21 ?_
        refine W.stk (w := (bI (allB (fun s => inB (f1 s) (mle ro s) (mgr ro s)) (k + 1)))) (bI_and _ _) ?_
        refine lv_istore_n (lv' := [(2, .int _), (0, .ref _), (1, .ref _), (3, .int _)]) hx hb dX4_counts_22 rfl hl (by decide) rfl (fun ls hl => ?_)
        refine lv_iinc (v := nI (k + 1)) (lv' := [(3, .int _), (2, .int _), (0, .ref _), (1, .ref _)]) hx hb dX4_counts_23 hl (k := 3) rfl (nI_iinc _ 1 rfl) (by decide) rfl (fun ls hl => ?_)
        refine lv_goto (tgt := 4) hx hb dX4_counts_26 (by decide) ?_
        exact ih4 (k + 1) (by omega) (by omega) _ hL ls (lv_sub hl [2, 3, 1, 0] rfl)
  exact L4 5 0 (by omega) (by omega) _ hL ls (lv_sub hl [2, 3, 1, 0] rfl)
theorem vb_X4_counts : VB yX4_counts cX4_counts 4 (some .boolean) 1 := ⟨q535, q536, q105, q537, ⟨by decide, by decide, by decide +kernel⟩⟩

set_option maxRecDepth 100000 in
set_option maxHeartbeats 4000000 in
theorem ct_X4_better (l : Launch) (g : GT) (P : Nat → Prop) (ro : Nat → Int32) (a : Nat) (I1 : Nat → Prop) (f1 : Nat → Int32) (x1 : Nat) (I2 : Nat → Prop) (f2 : Nat → Int32) (x2 : Nat) (t : Int32) (hw : WO (mw ro)) : Ct l g yX4_better cX4_better 7 (some .int) 3 0 0 [.ref a, .ref x1, .ref x2, .int t] (fun H => SidR g P ro a H ∧ OffR g I1 f1 x1 H ∧ OffR g I2 f2 x2 H) (fun r H H1 => r = some (.int (nI (betN (mw ro) f1 f2 (swB (mw ro) t)))) ∧ H1 = H) := by
  refine Ct.of (by decide) (Nat.le_of_ble_eq_true rfl) ?_
  intro p e s m args below meth c X hP ls hl
  have hx := X.1
  have hb := X.2.1
  have hKV := X.2.2.2.2.2.2.2.1.1
  have hL : ∀ q ∈ ([] : List Loc), gLo g ≤ q.base := fun _ h => by cases h
  obtain ⟨hs, ho1, ho2⟩ := hP
  obtain ⟨a1, a2, a3, a4, o0, w1, w2, w3, w4⟩ := rds hs
  obtain ⟨v1, ov1, av1⟩ := rdo ho1
  obtain ⟨v2, ov2, av2⟩ := rdo ho2
  have hl : lv_has ls 7 [(0, .ref a), (1, .ref x1), (2, .ref x2), (3, .int t)] := hl
  refine lv_iconst (v := nI 0) hx hb dX4_better_0 (by decide) ?_
  refine lv_istore (lv' := [(4, .int _), (0, .ref _), (1, .ref _), (2, .ref _), (3, .int _)]) hx hb dX4_better_1 hl (by decide) rfl (fun ls hl => ?_)
  refine lv_iconst (v := nI 0) hx hb dX4_better_3 (by decide) ?_
  refine lv_istore (lv' := [(5, .int _), (4, .int _), (0, .ref _), (1, .ref _), (2, .ref _), (3, .int _)]) hx hb dX4_better_4 hl (by decide) rfl (fun ls hl => ?_)
  have L6 : ∀ (fuel : Nat) (v k : Nat), 4 - k < fuel → (v = cnt (fun s => swB (mw ro) t s && decide (goodI (mw ro) f2 s < goodI (mw ro) f1 s)) k) → (k ≤ 4) → ∀ (locs : List Loc), (∀ q ∈ locs, gLo g ≤ q.base) → ∀ (ls : Array Slot), lv_has ls 7 [(0, .ref a), (1, .ref x1), (2, .ref x2), (3, .int t), (4, .int (nI v)), (5, .int (nI k))] → W p l e (rmL 3 0 0) s m args below meth c s.heap locs 0 0 (MQ below (Qcg (fun r H H1 => r = some (.int (nI (betN (mw ro) f1 f2 (swB (mw ro) t)))) ∧ H1 = H)) args s 0 0 (fre g)) (F0 m 6 ls []) := by
    intro fuel
    induction fuel with
    | zero => intro v k hfu; exact absurd hfu (Nat.not_lt_zero _)
    | succ fuel ih6 =>
      intro v k hfu hv hk  locs hL ls hl
      refine lv_iload hx hb dX4_better_6 (lv_at hl 5 rfl) ?_
      refine lv_iconst (v := nI 4) hx hb dX4_better_8 (by decide) ?_
      refine n_icmp_ge (tgt := 78) X dX4_better_9 (by decide) (by omega) (by omega) (fun c_9 => ?_) (fun c_9 => ?_)
      ·
        refine lv_iload hx hb dX4_better_78 (lv_at hl 4 rfl) ?_
        exact r_iret X hL rfl rfl dX4_better_80 (by omega) (by omega) ⟨by have e4 : k = 4 := (by omega); subst e4; rw [hv]; rfl, rfl⟩
      ·
        refine lv_iload_n hx hb dX4_better_12 rfl (lv_at hl 3 rfl) ?_
        refine lv_iload hx hb dX4_better_13 (lv_at hl 5 rfl) ?_
        refine Cp.callSN (v := .int (bI (hasB t k))) (ct_X1_has l g t k (by omega)) X hL hl sb_X1_has q581 rfl rfl (Nat.le_of_ble_eq_true rfl) dX4_better_15 ⟨Nat.le_of_ble_eq_true rfl, Nat.le_of_ble_eq_true rfl⟩ (by omega) (by omega) trivial (fun locs hL => ?_)
        refine b_ifeq (tgt := 34) X dX4_better_18 (by decide) (fun c_18 => ?_) (fun c_18 => ?_)
        ·
          refine lv_iconst (v := nI 0) hx hb dX4_better_34 (by decide) ?_
          refine lv_istore (lv' := [(6, .int _), (0, .ref _), (1, .ref _), (2, .ref _), (3, .int _), (4, .int _), (5, .int _)]) hx hb dX4_better_35 hl (by decide) rfl (fun ls hl => ?_)
          refine lv_iload hx hb dX4_better_37 (lv_at hl 5 rfl) ?_
          refine lv_iload hx hb dX4_better_39 (lv_at hl 0 rfl) ?_
          refine n_ifeq (tgt := 65) X dX4_better_41 (by decide) (by omega) (fun c_41 => ?_) (fun c_41 => ?_)
          ·
            refine lv_iconst (v := nI 0) hx hb dX4_better_65 (by decide) ?_
            refine Cp.callSN (v := .int (nI 0)) (ct_X1_flag l g false ) X hL hl sb_X1_flag q592 rfl rfl (Nat.le_of_ble_eq_true rfl) dX4_better_66 ⟨Nat.le_of_ble_eq_true rfl, Nat.le_of_ble_eq_true rfl⟩ (by omega) (by omega) trivial (fun locs hL => ?_)
            refine n_iadd X dX4_better_69 ?_
            refine lv_istore (lv' := [(4, .int _), (6, .int _), (0, .ref _), (1, .ref _), (2, .ref _), (3, .int _), (5, .int _)]) hx hb dX4_better_70 hl (by decide) rfl (fun ls hl => ?_)
            refine lv_iinc (v := nI (k + 1)) (lv' := [(5, .int _), (4, .int _), (6, .int _), (0, .ref _), (1, .ref _), (2, .ref _), (3, .int _)]) hx hb dX4_better_72 hl (k := 6) rfl (nI_iinc _ 1 rfl) (by decide) rfl (fun ls hl => ?_)
            refine lv_goto (tgt := 6) hx hb dX4_better_75 (by decide) ?_
            exact ih6 _ _ (by omega) (by first | (refine cnt_t hv ?_; simp [swB, c_18, c_27, lt_of_nle c_58]; done) | (refine cnt_f hv ?_; simp [swB, c_18, c_27, nlt_of_le c_58]; done) | (refine cnt_f hv ?_; simp [swB, c_18, c_27]; done) | (refine cnt_f hv ?_; simp [swB, c_18]; done)) (by omega) _ hL ls (lv_sub hl [3, 4, 5, 6, 1, 0] rfl)
          ·
            exact absurd c_41 (by decide)
        ·
          refine lv_aload_n hx hb dX4_better_21 rfl (lv_at hl 0 rfl) ?_
          refine lv_iload hx hb dX4_better_22 (lv_at hl 5 rfl) ?_
          refine Cp.callV (v := .int (bI (matB (mw ro) k))) (ct_X4_matters l g P ro a k hw (by omega)) X hL hl vb_X4_matters q584 (o0.recv hKV rfl) rfl rfl (Nat.le_of_ble_eq_true rfl) dX4_better_24 ⟨Nat.le_of_ble_eq_true rfl, Nat.le_of_ble_eq_true rfl⟩ (by omega) (by omega) hs (fun locs hL => ?_)
          refine b_ifeq (tgt := 34) X dX4_better_27 (by decide) (fun c_27 => ?_) (fun c_27 => ?_)
          ·
            refine lv_iconst (v := nI 0) hx hb dX4_better_34 (by decide) ?_
            refine lv_istore (lv' := [(6, .int _), (0, .ref _), (1, .ref _), (2, .ref _), (3, .int _), (4, .int _), (5, .int _)]) hx hb dX4_better_35 hl (by decide) rfl (fun ls hl => ?_)
            refine lv_iload hx hb dX4_better_37 (lv_at hl 5 rfl) ?_
            refine lv_iload hx hb dX4_better_39 (lv_at hl 0 rfl) ?_
            refine n_ifeq (tgt := 65) X dX4_better_41 (by decide) (by omega) (fun c_41 => ?_) (fun c_41 => ?_)
            ·
              refine lv_iconst (v := nI 0) hx hb dX4_better_65 (by decide) ?_
              refine Cp.callSN (v := .int (nI 0)) (ct_X1_flag l g false ) X hL hl sb_X1_flag q592 rfl rfl (Nat.le_of_ble_eq_true rfl) dX4_better_66 ⟨Nat.le_of_ble_eq_true rfl, Nat.le_of_ble_eq_true rfl⟩ (by omega) (by omega) trivial (fun locs hL => ?_)
              refine n_iadd X dX4_better_69 ?_
              refine lv_istore (lv' := [(4, .int _), (6, .int _), (0, .ref _), (1, .ref _), (2, .ref _), (3, .int _), (5, .int _)]) hx hb dX4_better_70 hl (by decide) rfl (fun ls hl => ?_)
              refine lv_iinc (v := nI (k + 1)) (lv' := [(5, .int _), (4, .int _), (6, .int _), (0, .ref _), (1, .ref _), (2, .ref _), (3, .int _)]) hx hb dX4_better_72 hl (k := 6) rfl (nI_iinc _ 1 rfl) (by decide) rfl (fun ls hl => ?_)
              refine lv_goto (tgt := 6) hx hb dX4_better_75 (by decide) ?_
              exact ih6 _ _ (by omega) (by first | (refine cnt_t hv ?_; simp [swB, c_18, c_27, lt_of_nle c_58]; done) | (refine cnt_f hv ?_; simp [swB, c_18, c_27, nlt_of_le c_58]; done) | (refine cnt_f hv ?_; simp [swB, c_18, c_27]; done) | (refine cnt_f hv ?_; simp [swB, c_18]; done)) (by omega) _ hL ls (lv_sub hl [3, 4, 5, 6, 1, 0] rfl)
            ·
              exact absurd c_41 (by decide)
          ·
            refine lv_iconst (v := nI 1) hx hb dX4_better_30 (by decide) ?_
            refine lv_goto (tgt := 35) hx hb dX4_better_31 (by decide) ?_
            refine lv_istore (lv' := [(6, .int _), (0, .ref _), (1, .ref _), (2, .ref _), (3, .int _), (4, .int _), (5, .int _)]) hx hb dX4_better_35 hl (by decide) rfl (fun ls hl => ?_)
            refine lv_iload hx hb dX4_better_37 (lv_at hl 5 rfl) ?_
            refine lv_iload hx hb dX4_better_39 (lv_at hl 0 rfl) ?_
            refine n_ifeq (tgt := 65) X dX4_better_41 (by decide) (by omega) (fun c_41 => ?_) (fun c_41 => ?_)
            ·
              exact absurd c_41 (by decide)
            ·
              refine lv_aload_n hx hb dX4_better_44 rfl (lv_at hl 1 rfl) ?_
              refine lv_aload_n hx hb dX4_better_45 rfl (lv_at hl 2 rfl) ?_
              refine lv_iload hx hb dX4_better_46 (lv_at hl 6 rfl) ?_
              refine Cp.callV (v := .int (goodI (mw ro) f1 k)) (ct_X4_good l g P ro a I1 f1 x1 k (by omega)) X hL hl vb_X4_good q588 (o0.recv hKV rfl) rfl rfl (Nat.le_of_ble_eq_true rfl) dX4_better_48 ⟨Nat.le_of_ble_eq_true rfl, Nat.le_of_ble_eq_true rfl⟩ (by omega) (by omega) ⟨hs, ho1⟩ (fun locs hL => ?_)
              refine lv_aload_n hx hb dX4_better_51 rfl (lv_at hl 1 rfl) ?_
              refine lv_aload_n hx hb dX4_better_52 rfl (lv_at hl 3 rfl) ?_
              refine lv_iload hx hb dX4_better_53 (lv_at hl 6 rfl) ?_
              refine Cp.callV (v := .int (goodI (mw ro) f2 k)) (ct_X4_good l g P ro a I2 f2 x2 k (by omega)) X hL hl vb_X4_good q588 (o0.recv hKV rfl) rfl rfl (Nat.le_of_ble_eq_true rfl) dX4_better_55 ⟨Nat.le_of_ble_eq_true rfl, Nat.le_of_ble_eq_true rfl⟩ (by omega) (by omega) ⟨hs, ho2⟩ (fun locs hL => ?_)
              refine lv_icmp_le (tgt := 65) hx hb dX4_better_58 (by decide) (fun c_58 => ?_) (fun c_58 => ?_)
              ·
                refine lv_iconst (v := nI 0) hx hb dX4_better_65 (by decide) ?_
                refine Cp.callSN (v := .int (nI 0)) (ct_X1_flag l g false ) X hL hl sb_X1_flag q592 rfl rfl (Nat.le_of_ble_eq_true rfl) dX4_better_66 ⟨Nat.le_of_ble_eq_true rfl, Nat.le_of_ble_eq_true rfl⟩ (by omega) (by omega) trivial (fun locs hL => ?_)
                refine n_iadd X dX4_better_69 ?_
                refine lv_istore (lv' := [(4, .int _), (6, .int _), (0, .ref _), (1, .ref _), (2, .ref _), (3, .int _), (5, .int _)]) hx hb dX4_better_70 hl (by decide) rfl (fun ls hl => ?_)
                refine lv_iinc (v := nI (k + 1)) (lv' := [(5, .int _), (4, .int _), (6, .int _), (0, .ref _), (1, .ref _), (2, .ref _), (3, .int _)]) hx hb dX4_better_72 hl (k := 6) rfl (nI_iinc _ 1 rfl) (by decide) rfl (fun ls hl => ?_)
                refine lv_goto (tgt := 6) hx hb dX4_better_75 (by decide) ?_
                exact ih6 _ _ (by omega) (by first | (refine cnt_t hv ?_; simp [swB, c_18, c_27, lt_of_nle c_58]; done) | (refine cnt_f hv ?_; simp [swB, c_18, c_27, nlt_of_le c_58]; done) | (refine cnt_f hv ?_; simp [swB, c_18, c_27]; done) | (refine cnt_f hv ?_; simp [swB, c_18]; done)) (by omega) _ hL ls (lv_sub hl [3, 4, 5, 6, 1, 0] rfl)
              ·
                refine lv_iconst (v := nI 1) hx hb dX4_better_61 (by decide) ?_
                refine lv_goto (tgt := 66) hx hb dX4_better_62 (by decide) ?_
                refine Cp.callSN (v := .int (nI 1)) (ct_X1_flag l g true ) X hL hl sb_X1_flag q592 rfl rfl (Nat.le_of_ble_eq_true rfl) dX4_better_66 ⟨Nat.le_of_ble_eq_true rfl, Nat.le_of_ble_eq_true rfl⟩ (by omega) (by omega) trivial (fun locs hL => ?_)
                refine n_iadd X dX4_better_69 ?_
                refine lv_istore (lv' := [(4, .int _), (6, .int _), (0, .ref _), (1, .ref _), (2, .ref _), (3, .int _), (5, .int _)]) hx hb dX4_better_70 hl (by decide) rfl (fun ls hl => ?_)
                refine lv_iinc (v := nI (k + 1)) (lv' := [(5, .int _), (4, .int _), (6, .int _), (0, .ref _), (1, .ref _), (2, .ref _), (3, .int _)]) hx hb dX4_better_72 hl (k := 6) rfl (nI_iinc _ 1 rfl) (by decide) rfl (fun ls hl => ?_)
                refine lv_goto (tgt := 6) hx hb dX4_better_75 (by decide) ?_
                exact ih6 _ _ (by omega) (by first | (refine cnt_t hv ?_; simp [swB, c_18, c_27, lt_of_nle c_58]; done) | (refine cnt_f hv ?_; simp [swB, c_18, c_27, nlt_of_le c_58]; done) | (refine cnt_f hv ?_; simp [swB, c_18, c_27]; done) | (refine cnt_f hv ?_; simp [swB, c_18]; done)) (by omega) _ hL ls (lv_sub hl [3, 4, 5, 6, 1, 0] rfl)
  exact L6 5 0 0 (by omega) rfl (by omega) _ hL ls (lv_sub hl [2, 3, 4, 5, 1, 0] rfl)
theorem vb_X4_better : VB yX4_better cX4_better 7 (some .int) 3 := ⟨q578, q579, q105, q580, ⟨by decide, by decide, by decide +kernel⟩⟩

set_option maxRecDepth 100000 in
set_option maxHeartbeats 4000000 in
theorem ct_X4_asGood (l : Launch) (g : GT) (P : Nat → Prop) (ro : Nat → Int32) (a : Nat) (I1 : Nat → Prop) (f1 : Nat → Int32) (x1 : Nat) (I2 : Nat → Prop) (f2 : Nat → Int32) (x2 : Nat) (t : Int32) (hw : WO (mw ro)) : Ct l g yX4_asGood cX4_asGood 7 (some .int) 3 0 0 [.ref a, .ref x1, .ref x2, .int t] (fun H => SidR g P ro a H ∧ OffR g I1 f1 x1 H ∧ OffR g I2 f2 x2 H) (fun r H H1 => r = some (.int (nI (asN (mw ro) f1 f2 t))) ∧ H1 = H) := by
  refine Ct.of (by decide) (Nat.le_of_ble_eq_true rfl) ?_
  intro p e s m args below meth c X hP ls hl
  have hx := X.1
  have hb := X.2.1
  have hKV := X.2.2.2.2.2.2.2.1.1
  have hL : ∀ q ∈ ([] : List Loc), gLo g ≤ q.base := fun _ h => by cases h
  obtain ⟨hs, ho1, ho2⟩ := hP
  obtain ⟨a1, a2, a3, a4, o0, w1, w2, w3, w4⟩ := rds hs
  obtain ⟨v1, ov1, av1⟩ := rdo ho1
  obtain ⟨v2, ov2, av2⟩ := rdo ho2
  have hl : lv_has ls 7 [(0, .ref a), (1, .ref x1), (2, .ref x2), (3, .int t)] := hl
  refine lv_iconst (v := nI 0) hx hb dX4_asGood_0 (by decide) ?_
  refine lv_istore (lv' := [(4, .int _), (0, .ref _), (1, .ref _), (2, .ref _), (3, .int _)]) hx hb dX4_asGood_1 hl (by decide) rfl (fun ls hl => ?_)
  refine lv_iconst (v := nI 0) hx hb dX4_asGood_3 (by decide) ?_
  refine lv_istore (lv' := [(5, .int _), (4, .int _), (0, .ref _), (1, .ref _), (2, .ref _), (3, .int _)]) hx hb dX4_asGood_4 hl (by decide) rfl (fun ls hl => ?_)
  have L6 : ∀ (fuel : Nat) (v k : Nat), 4 - k < fuel → (v = cnt (fun s => swB (mw ro) t s && decide (goodI (mw ro) f2 s ≤ goodI (mw ro) f1 s)) k) → (k ≤ 4) → ∀ (locs : List Loc), (∀ q ∈ locs, gLo g ≤ q.base) → ∀ (ls : Array Slot), lv_has ls 7 [(0, .ref a), (1, .ref x1), (2, .ref x2), (3, .int t), (4, .int (nI v)), (5, .int (nI k))] → W p l e (rmL 3 0 0) s m args below meth c s.heap locs 0 0 (MQ below (Qcg (fun r H H1 => r = some (.int (nI (asN (mw ro) f1 f2 t))) ∧ H1 = H)) args s 0 0 (fre g)) (F0 m 6 ls []) := by
    intro fuel
    induction fuel with
    | zero => intro v k hfu; exact absurd hfu (Nat.not_lt_zero _)
    | succ fuel ih6 =>
      intro v k hfu hv hk  locs hL ls hl
      refine lv_iload hx hb dX4_asGood_6 (lv_at hl 5 rfl) ?_
      refine lv_iconst (v := nI 4) hx hb dX4_asGood_8 (by decide) ?_
      refine n_icmp_ge (tgt := 78) X dX4_asGood_9 (by decide) (by omega) (by omega) (fun c_9 => ?_) (fun c_9 => ?_)
      ·
        refine lv_iload hx hb dX4_asGood_78 (lv_at hl 4 rfl) ?_
        exact r_iret X hL rfl rfl dX4_asGood_80 (by omega) (by omega) ⟨by have e4 : k = 4 := (by omega); subst e4; rw [hv]; rfl, rfl⟩
      ·
        refine lv_iload_n hx hb dX4_asGood_12 rfl (lv_at hl 3 rfl) ?_
        refine lv_iload hx hb dX4_asGood_13 (lv_at hl 5 rfl) ?_
        refine Cp.callSN (v := .int (bI (hasB t k))) (ct_X1_has l g t k (by omega)) X hL hl sb_X1_has q581 rfl rfl (Nat.le_of_ble_eq_true rfl) dX4_asGood_15 ⟨Nat.le_of_ble_eq_true rfl, Nat.le_of_ble_eq_true rfl⟩ (by omega) (by omega) trivial (fun locs hL => ?_)
        refine b_ifeq (tgt := 34) X dX4_asGood_18 (by decide) (fun c_18 => ?_) (fun c_18 => ?_)
        ·
          refine lv_iconst (v := nI 0) hx hb dX4_asGood_34 (by decide) ?_
          refine lv_istore (lv' := [(6, .int _), (0, .ref _), (1, .ref _), (2, .ref _), (3, .int _), (4, .int _), (5, .int _)]) hx hb dX4_asGood_35 hl (by decide) rfl (fun ls hl => ?_)
          refine lv_iload hx hb dX4_asGood_37 (lv_at hl 5 rfl) ?_
          refine lv_iload hx hb dX4_asGood_39 (lv_at hl 0 rfl) ?_
          refine n_ifeq (tgt := 65) X dX4_asGood_41 (by decide) (by omega) (fun c_41 => ?_) (fun c_41 => ?_)
          ·
            refine lv_iconst (v := nI 0) hx hb dX4_asGood_65 (by decide) ?_
            refine Cp.callSN (v := .int (nI 0)) (ct_X1_flag l g false ) X hL hl sb_X1_flag q592 rfl rfl (Nat.le_of_ble_eq_true rfl) dX4_asGood_66 ⟨Nat.le_of_ble_eq_true rfl, Nat.le_of_ble_eq_true rfl⟩ (by omega) (by omega) trivial (fun locs hL => ?_)
            refine n_iadd X dX4_asGood_69 ?_
            refine lv_istore (lv' := [(4, .int _), (6, .int _), (0, .ref _), (1, .ref _), (2, .ref _), (3, .int _), (5, .int _)]) hx hb dX4_asGood_70 hl (by decide) rfl (fun ls hl => ?_)
            refine lv_iinc (v := nI (k + 1)) (lv' := [(5, .int _), (4, .int _), (6, .int _), (0, .ref _), (1, .ref _), (2, .ref _), (3, .int _)]) hx hb dX4_asGood_72 hl (k := 6) rfl (nI_iinc _ 1 rfl) (by decide) rfl (fun ls hl => ?_)
            refine lv_goto (tgt := 6) hx hb dX4_asGood_75 (by decide) ?_
            exact ih6 _ _ (by omega) (by first | (refine cnt_t hv ?_; simp [swB, c_18, c_27, le_of_nlt c_58]; done) | (refine cnt_f hv ?_; simp [swB, c_18, c_27, nle_of_lt c_58]; done) | (refine cnt_f hv ?_; simp [swB, c_18, c_27]; done) | (refine cnt_f hv ?_; simp [swB, c_18]; done)) (by omega) _ hL ls (lv_sub hl [3, 4, 5, 6, 1, 0] rfl)
          ·
            exact absurd c_41 (by decide)
        ·
          refine lv_aload_n hx hb dX4_asGood_21 rfl (lv_at hl 0 rfl) ?_
          refine lv_iload hx hb dX4_asGood_22 (lv_at hl 5 rfl) ?_
          refine Cp.callV (v := .int (bI (matB (mw ro) k))) (ct_X4_matters l g P ro a k hw (by omega)) X hL hl vb_X4_matters q584 (o0.recv hKV rfl) rfl rfl (Nat.le_of_ble_eq_true rfl) dX4_asGood_24 ⟨Nat.le_of_ble_eq_true rfl, Nat.le_of_ble_eq_true rfl⟩ (by omega) (by omega) hs (fun locs hL => ?_)
          refine b_ifeq (tgt := 34) X dX4_asGood_27 (by decide) (fun c_27 => ?_) (fun c_27 => ?_)
          ·
            refine lv_iconst (v := nI 0) hx hb dX4_asGood_34 (by decide) ?_
            refine lv_istore (lv' := [(6, .int _), (0, .ref _), (1, .ref _), (2, .ref _), (3, .int _), (4, .int _), (5, .int _)]) hx hb dX4_asGood_35 hl (by decide) rfl (fun ls hl => ?_)
            refine lv_iload hx hb dX4_asGood_37 (lv_at hl 5 rfl) ?_
            refine lv_iload hx hb dX4_asGood_39 (lv_at hl 0 rfl) ?_
            refine n_ifeq (tgt := 65) X dX4_asGood_41 (by decide) (by omega) (fun c_41 => ?_) (fun c_41 => ?_)
            ·
              refine lv_iconst (v := nI 0) hx hb dX4_asGood_65 (by decide) ?_
              refine Cp.callSN (v := .int (nI 0)) (ct_X1_flag l g false ) X hL hl sb_X1_flag q592 rfl rfl (Nat.le_of_ble_eq_true rfl) dX4_asGood_66 ⟨Nat.le_of_ble_eq_true rfl, Nat.le_of_ble_eq_true rfl⟩ (by omega) (by omega) trivial (fun locs hL => ?_)
              refine n_iadd X dX4_asGood_69 ?_
              refine lv_istore (lv' := [(4, .int _), (6, .int _), (0, .ref _), (1, .ref _), (2, .ref _), (3, .int _), (5, .int _)]) hx hb dX4_asGood_70 hl (by decide) rfl (fun ls hl => ?_)
              refine lv_iinc (v := nI (k + 1)) (lv' := [(5, .int _), (4, .int _), (6, .int _), (0, .ref _), (1, .ref _), (2, .ref _), (3, .int _)]) hx hb dX4_asGood_72 hl (k := 6) rfl (nI_iinc _ 1 rfl) (by decide) rfl (fun ls hl => ?_)
              refine lv_goto (tgt := 6) hx hb dX4_asGood_75 (by decide) ?_
              exact ih6 _ _ (by omega) (by first | (refine cnt_t hv ?_; simp [swB, c_18, c_27, le_of_nlt c_58]; done) | (refine cnt_f hv ?_; simp [swB, c_18, c_27, nle_of_lt c_58]; done) | (refine cnt_f hv ?_; simp [swB, c_18, c_27]; done) | (refine cnt_f hv ?_; simp [swB, c_18]; done)) (by omega) _ hL ls (lv_sub hl [3, 4, 5, 6, 1, 0] rfl)
            ·
              exact absurd c_41 (by decide)
          ·
            refine lv_iconst (v := nI 1) hx hb dX4_asGood_30 (by decide) ?_
            refine lv_goto (tgt := 35) hx hb dX4_asGood_31 (by decide) ?_
            refine lv_istore (lv' := [(6, .int _), (0, .ref _), (1, .ref _), (2, .ref _), (3, .int _), (4, .int _), (5, .int _)]) hx hb dX4_asGood_35 hl (by decide) rfl (fun ls hl => ?_)
            refine lv_iload hx hb dX4_asGood_37 (lv_at hl 5 rfl) ?_
            refine lv_iload hx hb dX4_asGood_39 (lv_at hl 0 rfl) ?_
            refine n_ifeq (tgt := 65) X dX4_asGood_41 (by decide) (by omega) (fun c_41 => ?_) (fun c_41 => ?_)
            ·
              exact absurd c_41 (by decide)
            ·
              refine lv_aload_n hx hb dX4_asGood_44 rfl (lv_at hl 1 rfl) ?_
              refine lv_aload_n hx hb dX4_asGood_45 rfl (lv_at hl 2 rfl) ?_
              refine lv_iload hx hb dX4_asGood_46 (lv_at hl 6 rfl) ?_
              refine Cp.callV (v := .int (goodI (mw ro) f1 k)) (ct_X4_good l g P ro a I1 f1 x1 k (by omega)) X hL hl vb_X4_good q588 (o0.recv hKV rfl) rfl rfl (Nat.le_of_ble_eq_true rfl) dX4_asGood_48 ⟨Nat.le_of_ble_eq_true rfl, Nat.le_of_ble_eq_true rfl⟩ (by omega) (by omega) ⟨hs, ho1⟩ (fun locs hL => ?_)
              refine lv_aload_n hx hb dX4_asGood_51 rfl (lv_at hl 1 rfl) ?_
              refine lv_aload_n hx hb dX4_asGood_52 rfl (lv_at hl 3 rfl) ?_
              refine lv_iload hx hb dX4_asGood_53 (lv_at hl 6 rfl) ?_
              refine Cp.callV (v := .int (goodI (mw ro) f2 k)) (ct_X4_good l g P ro a I2 f2 x2 k (by omega)) X hL hl vb_X4_good q588 (o0.recv hKV rfl) rfl rfl (Nat.le_of_ble_eq_true rfl) dX4_asGood_55 ⟨Nat.le_of_ble_eq_true rfl, Nat.le_of_ble_eq_true rfl⟩ (by omega) (by omega) ⟨hs, ho2⟩ (fun locs hL => ?_)
              refine lv_icmp_lt (tgt := 65) hx hb dX4_asGood_58 (by decide) (fun c_58 => ?_) (fun c_58 => ?_)
              ·
                refine lv_iconst (v := nI 0) hx hb dX4_asGood_65 (by decide) ?_
                refine Cp.callSN (v := .int (nI 0)) (ct_X1_flag l g false ) X hL hl sb_X1_flag q592 rfl rfl (Nat.le_of_ble_eq_true rfl) dX4_asGood_66 ⟨Nat.le_of_ble_eq_true rfl, Nat.le_of_ble_eq_true rfl⟩ (by omega) (by omega) trivial (fun locs hL => ?_)
                refine n_iadd X dX4_asGood_69 ?_
                refine lv_istore (lv' := [(4, .int _), (6, .int _), (0, .ref _), (1, .ref _), (2, .ref _), (3, .int _), (5, .int _)]) hx hb dX4_asGood_70 hl (by decide) rfl (fun ls hl => ?_)
                refine lv_iinc (v := nI (k + 1)) (lv' := [(5, .int _), (4, .int _), (6, .int _), (0, .ref _), (1, .ref _), (2, .ref _), (3, .int _)]) hx hb dX4_asGood_72 hl (k := 6) rfl (nI_iinc _ 1 rfl) (by decide) rfl (fun ls hl => ?_)
                refine lv_goto (tgt := 6) hx hb dX4_asGood_75 (by decide) ?_
                exact ih6 _ _ (by omega) (by first | (refine cnt_t hv ?_; simp [swB, c_18, c_27, le_of_nlt c_58]; done) | (refine cnt_f hv ?_; simp [swB, c_18, c_27, nle_of_lt c_58]; done) | (refine cnt_f hv ?_; simp [swB, c_18, c_27]; done) | (refine cnt_f hv ?_; simp [swB, c_18]; done)) (by omega) _ hL ls (lv_sub hl [3, 4, 5, 6, 1, 0] rfl)
              ·
                refine lv_iconst (v := nI 1) hx hb dX4_asGood_61 (by decide) ?_
                refine lv_goto (tgt := 66) hx hb dX4_asGood_62 (by decide) ?_
                refine Cp.callSN (v := .int (nI 1)) (ct_X1_flag l g true ) X hL hl sb_X1_flag q592 rfl rfl (Nat.le_of_ble_eq_true rfl) dX4_asGood_66 ⟨Nat.le_of_ble_eq_true rfl, Nat.le_of_ble_eq_true rfl⟩ (by omega) (by omega) trivial (fun locs hL => ?_)
                refine n_iadd X dX4_asGood_69 ?_
                refine lv_istore (lv' := [(4, .int _), (6, .int _), (0, .ref _), (1, .ref _), (2, .ref _), (3, .int _), (5, .int _)]) hx hb dX4_asGood_70 hl (by decide) rfl (fun ls hl => ?_)
                refine lv_iinc (v := nI (k + 1)) (lv' := [(5, .int _), (4, .int _), (6, .int _), (0, .ref _), (1, .ref _), (2, .ref _), (3, .int _)]) hx hb dX4_asGood_72 hl (k := 6) rfl (nI_iinc _ 1 rfl) (by decide) rfl (fun ls hl => ?_)
                refine lv_goto (tgt := 6) hx hb dX4_asGood_75 (by decide) ?_
                exact ih6 _ _ (by omega) (by first | (refine cnt_t hv ?_; simp [swB, c_18, c_27, le_of_nlt c_58]; done) | (refine cnt_f hv ?_; simp [swB, c_18, c_27, nle_of_lt c_58]; done) | (refine cnt_f hv ?_; simp [swB, c_18, c_27]; done) | (refine cnt_f hv ?_; simp [swB, c_18]; done)) (by omega) _ hL ls (lv_sub hl [3, 4, 5, 6, 1, 0] rfl)
  exact L6 5 0 0 (by omega) rfl (by omega) _ hL ls (lv_sub hl [2, 3, 4, 5, 1, 0] rfl)
theorem vb_X4_asGood : VB yX4_asGood cX4_asGood 7 (some .int) 3 := ⟨q1233, q1234, q105, q1235, ⟨by decide, by decide, by decide +kernel⟩⟩

set_option maxRecDepth 100000 in
set_option maxHeartbeats 4000000 in
theorem ct_X4_isAbove (l : Launch) (g : GT) (P : Nat → Prop) (ro : Nat → Int32) (a : Nat) (I1 : Nat → Prop) (f1 : Nat → Int32) (x1 : Nat) (I2 : Nat → Prop) (f2 : Nat → Int32) (x2 : Nat) (t : Int32) (hw : WO (mw ro)) : Ct l g yX4_isAbove cX4_isAbove 4 (some .boolean) 4 0 0 [.ref a, .ref x1, .ref x2, .int t] (fun H => SidR g P ro a H ∧ OffR g I1 f1 x1 H ∧ OffR g I2 f2 x2 H) (fun r H H1 => r = some (.int (bI (beyB (mw ro) f1 f2 (swB (mw ro) t)))) ∧ H1 = H) := by
  refine Ct.of (by decide) (Nat.le_of_ble_eq_true rfl) ?_
  intro p e s m args below meth c X hP ls hl
  have hx := X.1
  have hb := X.2.1
  have hKV := X.2.2.2.2.2.2.2.1.1
  have hL : ∀ q ∈ ([] : List Loc), gLo g ≤ q.base := fun _ h => by cases h
  obtain ⟨hs, ho1, ho2⟩ := hP
  obtain ⟨a1, a2, a3, a4, o0, w1, w2, w3, w4⟩ := rds hs
  obtain ⟨v1, ov1, av1⟩ := rdo ho1
  obtain ⟨v2, ov2, av2⟩ := rdo ho2
  have hl : lv_has ls 4 [(0, .ref a), (1, .ref x1), (2, .ref x2), (3, .int t)] := hl
  have b1 := betN_le (mw ro) f1 f2 (swB (mw ro) t)
  have b2 := betN_le (mw ro) f2 f1 (swB (mw ro) t)
  refine lv_aload_n hx hb dX4_isAbove_0 rfl (lv_at hl 0 rfl) ?_
  refine lv_aload_n hx hb dX4_isAbove_1 rfl (lv_at hl 2 rfl) ?_
  refine lv_aload_n hx hb dX4_isAbove_2 rfl (lv_at hl 1 rfl) ?_
  refine lv_iload_n hx hb dX4_isAbove_3 rfl (lv_at hl 3 rfl) ?_
  refine Cp.callV (v := .int (nI (betN (mw ro) f2 f1 (swB (mw ro) t)))) (ct_X4_better l g P ro a I2 f2 x2 I1 f1 x1 t hw) X hL hl vb_X4_better q577 (o0.recv hKV rfl) rfl rfl (Nat.le_of_ble_eq_true rfl) dX4_isAbove_4 ⟨Nat.le_of_ble_eq_true rfl, Nat.le_of_ble_eq_true rfl⟩ (by omega) (by omega) ⟨hs, ho2, ho1⟩ (fun locs hL => ?_)
  refine n_ifne (tgt := 24) X dX4_isAbove_7 (by decide) (by omega) (fun c_7 => ?_) (fun c_7 => ?_)
  ·
    refine lv_iconst (v := nI 0) hx hb dX4_isAbove_24 (by decide) ?_
    exact r_iret X hL rfl rfl dX4_isAbove_25 (by omega) (by omega) ⟨v_f (by unfold beyB; simp [c_7]), rfl⟩
  ·
    refine lv_aload_n hx hb dX4_isAbove_10 rfl (lv_at hl 0 rfl) ?_
    refine lv_aload_n hx hb dX4_isAbove_11 rfl (lv_at hl 1 rfl) ?_
    refine lv_aload_n hx hb dX4_isAbove_12 rfl (lv_at hl 2 rfl) ?_
    refine lv_iload_n hx hb dX4_isAbove_13 rfl (lv_at hl 3 rfl) ?_
    refine Cp.callV (v := .int (nI (betN (mw ro) f1 f2 (swB (mw ro) t)))) (ct_X4_better l g P ro a I1 f1 x1 I2 f2 x2 t hw) X hL hl vb_X4_better q577 (o0.recv hKV rfl) rfl rfl (Nat.le_of_ble_eq_true rfl) dX4_isAbove_14 ⟨Nat.le_of_ble_eq_true rfl, Nat.le_of_ble_eq_true rfl⟩ (by omega) (by omega) ⟨hs, ho1, ho2⟩ (fun locs hL => ?_)
    refine n_ifle (tgt := 24) X dX4_isAbove_17 (by decide) (by omega) (fun c_17 => ?_) (fun c_17 => ?_)
    ·
      refine lv_iconst (v := nI 0) hx hb dX4_isAbove_24 (by decide) ?_
      exact r_iret X hL rfl rfl dX4_isAbove_25 (by omega) (by omega) ⟨v_f (by unfold beyB; simp [show betN (mw ro) f1 f2 (swB (mw ro) t) = 0 by omega]), rfl⟩
    ·
      refine lv_iconst (v := nI 1) hx hb dX4_isAbove_20 (by decide) ?_
      refine lv_goto (tgt := 25) hx hb dX4_isAbove_21 (by decide) ?_
      exact r_iret X hL rfl rfl dX4_isAbove_25 (by omega) (by omega) ⟨v_t (by unfold beyB; simp [show betN (mw ro) f2 f1 (swB (mw ro) t) = 0 by omega, show 0 < betN (mw ro) f1 f2 (swB (mw ro) t) by omega]), rfl⟩
theorem vb_X4_isAbove : VB yX4_isAbove cX4_isAbove 4 (some .boolean) 3 := ⟨q574, q575, q105, q576, ⟨by decide, by decide, by decide +kernel⟩⟩

set_option maxRecDepth 100000 in
set_option maxHeartbeats 4000000 in
theorem ct_X4_isAboveWeakly (l : Launch) (g : GT) (P : Nat → Prop) (ro : Nat → Int32) (a : Nat) (I1 : Nat → Prop) (f1 : Nat → Int32) (x1 : Nat) (I2 : Nat → Prop) (f2 : Nat → Int32) (x2 : Nat) (t : Int32) (hw : WO (mw ro)) : Ct l g yX4_isAboveWeakly cX4_isAboveWeakly 4 (some .boolean) 4 0 0 [.ref a, .ref x1, .ref x2, .int t] (fun H => SidR g P ro a H ∧ OffR g I1 f1 x1 H ∧ OffR g I2 f2 x2 H) (fun r H H1 => r = some (.int (bI (decide (t ≤ nI (asN (mw ro) f1 f2 (nI 15))) && decide (0 < betN (mw ro) f1 f2 (swB (mw ro) (nI 15)))))) ∧ H1 = H) := by
  refine Ct.of (by decide) (Nat.le_of_ble_eq_true rfl) ?_
  intro p e s m args below meth c X hP ls hl
  have hx := X.1
  have hb := X.2.1
  have hKV := X.2.2.2.2.2.2.2.1.1
  have hL : ∀ q ∈ ([] : List Loc), gLo g ≤ q.base := fun _ h => by cases h
  obtain ⟨hs, ho1, ho2⟩ := hP
  obtain ⟨a1, a2, a3, a4, o0, w1, w2, w3, w4⟩ := rds hs
  obtain ⟨v1, ov1, av1⟩ := rdo ho1
  obtain ⟨v2, ov2, av2⟩ := rdo ho2
  have hl : lv_has ls 4 [(0, .ref a), (1, .ref x1), (2, .ref x2), (3, .int t)] := hl
  have b1 := betN_le (mw ro) f1 f2 (swB (mw ro) (nI 15))
  refine lv_aload_n hx hb dX4_isAboveWeakly_0 rfl (lv_at hl 0 rfl) ?_
  refine lv_aload_n hx hb dX4_isAboveWeakly_1 rfl (lv_at hl 1 rfl) ?_
  refine lv_aload_n hx hb dX4_isAboveWeakly_2 rfl (lv_at hl 2 rfl) ?_
  refine lv_bipush (v := nI 15) hx hb dX4_isAboveWeakly_3 (by decide) ?_
  refine Cp.callV (v := .int (nI (asN (mw ro) f1 f2 (nI 15)))) (ct_X4_asGood l g P ro a I1 f1 x1 I2 f2 x2 (nI 15) hw) X hL hl vb_X4_asGood q1232 (o0.recv hKV rfl) rfl rfl (Nat.le_of_ble_eq_true rfl) dX4_isAboveWeakly_5 ⟨Nat.le_of_ble_eq_true rfl, Nat.le_of_ble_eq_true rfl⟩ (by omega) (by omega) ⟨hs, ho1, ho2⟩ (fun locs hL => ?_)
  refine lv_iload_n hx hb dX4_isAboveWeakly_8 rfl (lv_at hl 3 rfl) ?_
  refine lv_icmp_lt (tgt := 27) hx hb dX4_isAboveWeakly_9 (by decide) (fun c_9 => ?_) (fun c_9 => ?_)
  ·
    refine lv_iconst (v := nI 0) hx hb dX4_isAboveWeakly_27 (by decide) ?_
    exact r_iret X hL rfl rfl dX4_isAboveWeakly_28 (by omega) (by omega) ⟨v_f (by rw [decide_eq_false (nle_of_lt c_9)]; rfl), rfl⟩
  ·
    refine lv_aload_n hx hb dX4_isAboveWeakly_12 rfl (lv_at hl 0 rfl) ?_
    refine lv_aload_n hx hb dX4_isAboveWeakly_13 rfl (lv_at hl 1 rfl) ?_
    refine lv_aload_n hx hb dX4_isAboveWeakly_14 rfl (lv_at hl 2 rfl) ?_
    refine lv_bipush (v := nI 15) hx hb dX4_isAboveWeakly_15 (by decide) ?_
    refine Cp.callV (v := .int (nI (betN (mw ro) f1 f2 (swB (mw ro) (nI 15))))) (ct_X4_better l g P ro a I1 f1 x1 I2 f2 x2 (nI 15) hw) X hL hl vb_X4_better q577 (o0.recv hKV rfl) rfl rfl (Nat.le_of_ble_eq_true rfl) dX4_isAboveWeakly_17 ⟨Nat.le_of_ble_eq_true rfl, Nat.le_of_ble_eq_true rfl⟩ (by omega) (by omega) ⟨hs, ho1, ho2⟩ (fun locs hL => ?_)
    refine n_ifle (tgt := 27) X dX4_isAboveWeakly_20 (by decide) (by omega) (fun c_20 => ?_) (fun c_20 => ?_)
    ·
      refine lv_iconst (v := nI 0) hx hb dX4_isAboveWeakly_27 (by decide) ?_
      exact r_iret X hL rfl rfl dX4_isAboveWeakly_28 (by omega) (by omega) ⟨v_f (by rw [show betN (mw ro) f1 f2 (swB (mw ro) (nI 15)) = 0 by omega]; simp), rfl⟩
    ·
      refine lv_iconst (v := nI 1) hx hb dX4_isAboveWeakly_23 (by decide) ?_
      refine lv_goto (tgt := 28) hx hb dX4_isAboveWeakly_24 (by decide) ?_
      exact r_iret X hL rfl rfl dX4_isAboveWeakly_28 (by omega) (by omega) ⟨v_t (by rw [decide_eq_true (le_of_nlt c_9), decide_eq_true (show 0 < betN (mw ro) f1 f2 (swB (mw ro) (nI 15)) by omega)]; rfl), rfl⟩
theorem vb_X4_isAboveWeakly : VB yX4_isAboveWeakly cX4_isAboveWeakly 4 (some .boolean) 3 := ⟨q1229, q1230, q105, q1231, ⟨by decide, by decide, by decide +kernel⟩⟩

set_option maxRecDepth 100000 in
set_option maxHeartbeats 4000000 in
theorem ct_X4_sum (l : Launch) (g : GT) (P : Nat → Prop) (ro : Nat → Int32) (a : Nat) (I1 : Nat → Prop) (f1 : Nat → Int32) (x1 : Nat) (hw : WO (mw ro)) : Ct l g yX4_sum cX4_sum 4 (some .int) 3 0 0 [.ref a, .ref x1] (fun H => SidR g P ro a H ∧ OffR g I1 f1 x1 H) (fun r H H1 => r = some (.int (smI (mw ro) f1 4)) ∧ H1 = H) := by
  refine Ct.of (by decide) (Nat.le_of_ble_eq_true rfl) ?_
  intro p e s m args below meth c X hP ls hl
  have hx := X.1
  have hb := X.2.1
  have hKV := X.2.2.2.2.2.2.2.1.1
  have hL : ∀ q ∈ ([] : List Loc), gLo g ≤ q.base := fun _ h => by cases h
  obtain ⟨hs, ho1⟩ := hP
  obtain ⟨a1, a2, a3, a4, o0, w1, w2, w3, w4⟩ := rds hs
  obtain ⟨v1, ov1, av1⟩ := rdo ho1
  have hl : lv_has ls 4 [(0, .ref a), (1, .ref x1)] := hl
  refine lv_iconst (v := nI 0) hx hb dX4_sum_0 (by decide) ?_
  refine lv_istore_n (lv' := [(2, .int _), (0, .ref _), (1, .ref _)]) hx hb dX4_sum_1 rfl hl (by decide) rfl (fun ls hl => ?_)
  refine lv_iconst (v := nI 0) hx hb dX4_sum_2 (by decide) ?_
  refine lv_istore_n (lv' := [(3, .int _), (2, .int _), (0, .ref _), (1, .ref _)]) hx hb dX4_sum_3 rfl hl (by decide) rfl (fun ls hl => ?_)
  have L4 : ∀ (fuel : Nat) (k : Nat), 4 - k < fuel → (k ≤ 4) → ∀ (locs : List Loc), (∀ q ∈ locs, gLo g ≤ q.base) → ∀ (ls : Array Slot), lv_has ls 4 [(0, .ref a), (1, .ref x1), (2, .int (smI (mw ro) f1 k)), (3, .int (nI k))] → W p l e (rmL 3 0 0) s m args below meth c s.heap locs 0 0 (MQ below (Qcg (fun r H H1 => r = some (.int (smI (mw ro) f1 4)) ∧ H1 = H)) args s 0 0 (fre g)) (F0 m 4 ls []) := by
    intro fuel
    induction fuel with
    | zero => intro k hfu; exact absurd hfu (Nat.not_lt_zero _)
    | succ fuel ih4 =>
      intro k hfu hk  locs hL ls hl
      refine lv_iload_n hx hb dX4_sum_4 rfl (lv_at hl 3 rfl) ?_
      refine lv_iconst (v := nI 4) hx hb dX4_sum_5 (by decide) ?_
      refine n_icmp_ge (tgt := 36) X dX4_sum_6 (by decide) (by omega) (by omega) (fun c_6 => ?_) (fun c_6 => ?_)
      ·
        refine lv_iload_n hx hb dX4_sum_36 rfl (lv_at hl 2 rfl) ?_
        exact r_iret X hL rfl rfl dX4_sum_37 (by omega) (by omega) ⟨by have e4 : k = 4 := (by omega); subst e4; rfl, rfl⟩
      ·
        refine lv_iload_n hx hb dX4_sum_9 rfl (lv_at hl 2 rfl) ?_
        refine lv_aload_n hx hb dX4_sum_10 rfl (lv_at hl 0 rfl) ?_
        refine lv_iload_n hx hb dX4_sum_11 rfl (lv_at hl 3 rfl) ?_
        refine Cp.callV (v := .int (bI (matB (mw ro) k))) (ct_X4_matters l g P ro a k hw (by omega)) X hL hl vb_X4_matters q584 (o0.recv hKV rfl) rfl rfl (Nat.le_of_ble_eq_true rfl) dX4_sum_12 ⟨Nat.le_of_ble_eq_true rfl, Nat.le_of_ble_eq_true rfl⟩ (by omega) (by omega) hs (fun locs hL => ?_)
        refine b_ifeq (tgt := 27) X dX4_sum_15 (by decide) (fun c_15 => ?_) (fun c_15 => ?_)
        ·
          refine lv_iconst (v := nI 0) hx hb dX4_sum_27 (by decide) ?_
          refine lv_iadd hx hb dX4_sum_28 ?_
          refine W.stk (w := (smI (mw ro) f1 (k + 1))) (by simp [smI, c_15]) ?_
          refine lv_istore_n (lv' := [(2, .int _), (0, .ref _), (1, .ref _), (3, .int _)]) hx hb dX4_sum_29 rfl hl (by decide) rfl (fun ls hl => ?_)
          refine lv_iinc (v := nI (k + 1)) (lv' := [(3, .int _), (2, .int _), (0, .ref _), (1, .ref _)]) hx hb dX4_sum_30 hl (k := 3) rfl (nI_iinc _ 1 rfl) (by decide) rfl (fun ls hl => ?_)
          refine lv_goto (tgt := 4) hx hb dX4_sum_33 (by decide) ?_
          exact ih4 (k + 1) (by omega) (by omega) _ hL ls (lv_sub hl [2, 3, 1, 0] rfl)
        ·
          refine lv_aload_n hx hb dX4_sum_18 rfl (lv_at hl 0 rfl) ?_
          refine lv_aload_n hx hb dX4_sum_19 rfl (lv_at hl 1 rfl) ?_
          refine lv_iload_n hx hb dX4_sum_20 rfl (lv_at hl 3 rfl) ?_
          refine Cp.callV (v := .int (goodI (mw ro) f1 k)) (ct_X4_good l g P ro a I1 f1 x1 k (by omega)) X hL hl vb_X4_good q588 (o0.recv hKV rfl) rfl rfl (Nat.le_of_ble_eq_true rfl) dX4_sum_21 ⟨Nat.le_of_ble_eq_true rfl, Nat.le_of_ble_eq_true rfl⟩ (by omega) (by omega) ⟨hs, ho1⟩ (fun locs hL => ?_)
          refine lv_goto (tgt := 28) hx hb dX4_sum_24 (by decide) ?_
          refine lv_iadd hx hb dX4_sum_28 ?_
          refine W.stk (w := (smI (mw ro) f1 (k + 1))) (by simp [smI, c_15]) ?_
          refine lv_istore_n (lv' := [(2, .int _), (0, .ref _), (1, .ref _), (3, .int _)]) hx hb dX4_sum_29 rfl hl (by decide) rfl (fun ls hl => ?_)
          refine lv_iinc (v := nI (k + 1)) (lv' := [(3, .int _), (2, .int _), (0, .ref _), (1, .ref _)]) hx hb dX4_sum_30 hl (k := 3) rfl (nI_iinc _ 1 rfl) (by decide) rfl (fun ls hl => ?_)
          refine lv_goto (tgt := 4) hx hb dX4_sum_33 (by decide) ?_
          exact ih4 (k + 1) (by omega) (by omega) _ hL ls (lv_sub hl [2, 3, 1, 0] rfl)
  exact L4 5 0 (by omega) (by omega) _ hL ls (lv_sub hl [2, 3, 1, 0] rfl)
theorem vb_X4_sum : VB yX4_sum cX4_sum 4 (some .int) 1 := ⟨q1020, q1021, q105, q1022, ⟨by decide, by decide, by decide +kernel⟩⟩

set_option maxRecDepth 100000 in
set_option maxHeartbeats 4000000 in
theorem ct_X4_score (l : Launch) (g : GT) (P : Nat → Prop) (ro : Nat → Int32) (a : Nat) (I1 : Nat → Prop) (f1 : Nat → Int32) (x1 : Nat) (hw : WO (mw ro)) : Ct l g yX4_score cX4_score 4 (some .int) 3 0 0 [.ref a, .ref x1] (fun H => SidR g P ro a H ∧ OffR g I1 f1 x1 H) (fun r H H1 => r = some (.int (scoN (mw ro) (mwe ro) f1 4)) ∧ H1 = H) := by
  refine Ct.of (by decide) (Nat.le_of_ble_eq_true rfl) ?_
  intro p e s m args below meth c X hP ls hl
  have hx := X.1
  have hb := X.2.1
  have hKV := X.2.2.2.2.2.2.2.1.1
  have hL : ∀ q ∈ ([] : List Loc), gLo g ≤ q.base := fun _ h => by cases h
  obtain ⟨hs, ho1⟩ := hP
  obtain ⟨a1, a2, a3, a4, o0, w1, w2, w3, w4⟩ := rds hs
  obtain ⟨v1, ov1, av1⟩ := rdo ho1
  have hl : lv_has ls 4 [(0, .ref a), (1, .ref x1)] := hl
  refine lv_iconst (v := nI 0) hx hb dX4_score_0 (by decide) ?_
  refine lv_istore_n (lv' := [(2, .int _), (0, .ref _), (1, .ref _)]) hx hb dX4_score_1 rfl hl (by decide) rfl (fun ls hl => ?_)
  refine lv_iconst (v := nI 0) hx hb dX4_score_2 (by decide) ?_
  refine lv_istore_n (lv' := [(3, .int _), (2, .int _), (0, .ref _), (1, .ref _)]) hx hb dX4_score_3 rfl hl (by decide) rfl (fun ls hl => ?_)
  have L4 : ∀ (fuel : Nat) (k : Nat), 4 - k < fuel → (k ≤ 4) → ∀ (locs : List Loc), (∀ q ∈ locs, gLo g ≤ q.base) → ∀ (ls : Array Slot), lv_has ls 4 [(0, .ref a), (1, .ref x1), (2, .int (scoN (mw ro) (mwe ro) f1 k)), (3, .int (nI k))] → W p l e (rmL 3 0 0) s m args below meth c s.heap locs 0 0 (MQ below (Qcg (fun r H H1 => r = some (.int (scoN (mw ro) (mwe ro) f1 4)) ∧ H1 = H)) args s 0 0 (fre g)) (F0 m 4 ls []) := by
    intro fuel
    induction fuel with
    | zero => intro k hfu; exact absurd hfu (Nat.not_lt_zero _)
    | succ fuel ih4 =>
      intro k hfu hk  locs hL ls hl
      refine lv_iload_n hx hb dX4_score_4 rfl (lv_at hl 3 rfl) ?_
      refine lv_iconst (v := nI 4) hx hb dX4_score_5 (by decide) ?_
      refine n_icmp_ge (tgt := 43) X dX4_score_6 (by decide) (by omega) (by omega) (fun c_6 => ?_) (fun c_6 => ?_)
      ·
        refine lv_iload_n hx hb dX4_score_43 rfl (lv_at hl 2 rfl) ?_
        exact r_iret X hL rfl rfl dX4_score_44 (by omega) (by omega) ⟨by have e4 : k = 4 := (by omega); subst e4; rfl, rfl⟩
      ·
        refine lv_iload_n hx hb dX4_score_9 rfl (lv_at hl 2 rfl) ?_
        refine lv_aload_n hx hb dX4_score_10 rfl (lv_at hl 0 rfl) ?_
        refine lv_iload_n hx hb dX4_score_11 rfl (lv_at hl 3 rfl) ?_
        refine Cp.callV (v := .int (bI (matB (mw ro) k))) (ct_X4_matters l g P ro a k hw (by omega)) X hL hl vb_X4_matters q584 (o0.recv hKV rfl) rfl rfl (Nat.le_of_ble_eq_true rfl) dX4_score_12 ⟨Nat.le_of_ble_eq_true rfl, Nat.le_of_ble_eq_true rfl⟩ (by omega) (by omega) hs (fun locs hL => ?_)
        refine b_ifeq (tgt := 34) X dX4_score_15 (by decide) (fun c_15 => ?_) (fun c_15 => ?_)
        ·
          refine lv_iconst (v := nI 0) hx hb dX4_score_34 (by decide) ?_
          refine lv_iadd hx hb dX4_score_35 ?_
          refine W.stk (w := (scoN (mw ro) (mwe ro) f1 (k + 1))) (by simp [scoN, c_15]) ?_
          refine lv_istore_n (lv' := [(2, .int _), (0, .ref _), (1, .ref _), (3, .int _)]) hx hb dX4_score_36 rfl hl (by decide) rfl (fun ls hl => ?_)
          refine lv_iinc (v := nI (k + 1)) (lv' := [(3, .int _), (2, .int _), (0, .ref _), (1, .ref _)]) hx hb dX4_score_37 hl (k := 3) rfl (nI_iinc _ 1 rfl) (by decide) rfl (fun ls hl => ?_)
          refine lv_goto (tgt := 4) hx hb dX4_score_40 (by decide) ?_
          exact ih4 (k + 1) (by omega) (by omega) _ hL ls (lv_sub hl [2, 3, 1, 0] rfl)
        ·
          refine lv_aload_n hx hb dX4_score_18 rfl (lv_at hl 0 rfl) ?_
          refine lv_aload_n hx hb dX4_score_19 rfl (lv_at hl 1 rfl) ?_
          refine lv_iload_n hx hb dX4_score_20 rfl (lv_at hl 3 rfl) ?_
          refine Cp.callV (v := .int (goodI (mw ro) f1 k)) (ct_X4_good l g P ro a I1 f1 x1 k (by omega)) X hL hl vb_X4_good q588 (o0.recv hKV rfl) rfl rfl (Nat.le_of_ble_eq_true rfl) dX4_score_21 ⟨Nat.le_of_ble_eq_true rfl, Nat.le_of_ble_eq_true rfl⟩ (by omega) (by omega) ⟨hs, ho1⟩ (fun locs hL => ?_)
          refine lv_aload_n hx hb dX4_score_24 rfl (lv_at hl 0 rfl) ?_
          refine r_get (C := RX4) (T := TX4) (N := 4) (ci := 4) X in_X4 rfl 3 (Nat.le_of_ble_eq_true rfl) q198 (fun _ h => h) o0 rfl dX4_score_25 ?_
          refine lv_iload_n hx hb dX4_score_28 rfl (lv_at hl 3 rfl) ?_
          refine r_ild X w4 k (nI_cl (by omega) rfl) (nI_nn (by omega) rfl) (by omega) dX4_score_29 ?_
          refine lv_imul hx hb dX4_score_30 ?_
          refine lv_goto (tgt := 35) hx hb dX4_score_31 (by decide) ?_
          refine lv_iadd hx hb dX4_score_35 ?_
          refine W.stk (w := (scoN (mw ro) (mwe ro) f1 (k + 1))) (by simp [scoN, c_15]) ?_
          refine lv_istore_n (lv' := [(2, .int _), (0, .ref _), (1, .ref _), (3, .int _)]) hx hb dX4_score_36 rfl hl (by decide) rfl (fun ls hl => ?_)
          refine lv_iinc (v := nI (k + 1)) (lv' := [(3, .int _), (2, .int _), (0, .ref _), (1, .ref _)]) hx hb dX4_score_37 hl (k := 3) rfl (nI_iinc _ 1 rfl) (by decide) rfl (fun ls hl => ?_)
          refine lv_goto (tgt := 4) hx hb dX4_score_40 (by decide) ?_
          exact ih4 (k + 1) (by omega) (by omega) _ hL ls (lv_sub hl [2, 3, 1, 0] rfl)
  exact L4 5 0 (by omega) (by omega) _ hL ls (lv_sub hl [2, 3, 1, 0] rfl)
theorem vb_X4_score : VB yX4_score cX4_score 4 (some .int) 1 := ⟨q1200, q1201, q105, q1202, ⟨by decide, by decide, by decide +kernel⟩⟩
