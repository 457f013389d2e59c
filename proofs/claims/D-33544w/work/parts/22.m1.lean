set_option maxRecDepth 100000 in
set_option maxHeartbeats 4000000 in
theorem ct_X5_in (l : Launch) (g : GT) (v a b : Int32)  : Ct l g yX5_in cX5_in 3 (some .boolean) 1 0 0 [.int v, .int a, .int b] (fun _ => True) (fun r H H1 => r = some (.int (bI (inB v a b))) ∧ H1 = H) := by
  refine Ct.of (by decide) (Nat.le_of_ble_eq_true rfl) ?_
  intro p e s m args below meth c X hP ls hl
  have hx := X.1
  have hb := X.2.1
  have hKV := X.2.2.2.2.2.2.2.1.1
  have hL : ∀ q ∈ ([] : List Loc), gLo g ≤ q.base := fun _ h => by cases h
  have hl : lv_has ls 3 [(0, .int v), (1, .int a), (2, .int b)] := hl
  refine lv_iload_n hx hb dX5_in_0 rfl (lv_at hl 0 rfl) ?_
  refine lv_iload_n hx hb dX5_in_1 rfl (lv_at hl 1 rfl) ?_
  refine lv_icmp_lt (tgt := 14) hx hb dX5_in_2 (by decide) (fun c_2 => ?_) (fun c_2 => ?_)
  ·
    refine lv_iconst (v := nI 0) hx hb dX5_in_14 (by decide) ?_
    exact r_iret X hL rfl rfl dX5_in_15 (by omega) (by omega) ⟨v_f (by simp [inB, nle_of_lt c_2]), rfl⟩
  ·
    refine lv_iload_n hx hb dX5_in_5 rfl (lv_at hl 0 rfl) ?_
    refine lv_iload_n hx hb dX5_in_6 rfl (lv_at hl 2 rfl) ?_
    refine lv_icmp_gt (tgt := 14) hx hb dX5_in_7 (by decide) (fun c_7 => ?_) (fun c_7 => ?_)
    ·
      refine lv_iconst (v := nI 0) hx hb dX5_in_14 (by decide) ?_
      exact r_iret X hL rfl rfl dX5_in_15 (by omega) (by omega) ⟨v_f (by simp [inB, nle_of_lt c_7]), rfl⟩
    ·
      refine lv_iconst (v := nI 1) hx hb dX5_in_10 (by decide) ?_
      refine lv_goto (tgt := 15) hx hb dX5_in_11 (by decide) ?_
      exact r_iret X hL rfl rfl dX5_in_15 (by omega) (by omega) ⟨v_t (by simp [inB, le_of_nlt c_2, le_of_nlt c_7]), rfl⟩
theorem sb_X5_in : SB yX5_in cX5_in 3 (some .boolean) 3 := ⟨q1886, q111, q1887, ⟨by decide, by decide, by decide +kernel⟩⟩

set_option maxRecDepth 100000 in
set_option maxHeartbeats 4000000 in
theorem ct_X5_isNone (l : Launch) (g : GT) (o n : Nat) (S : MS) (x : Int32) (hN : S.1 0 160 = nI n) (hn : n ≤ 40) : Ct l g yX5_isNone cX5_isNone 2 (some .boolean) 2 0 0 [.ref o, .int x] (MW g o S) (fun r H H1 => r = some (.int (bI (noB n x))) ∧ H1 = H) := by
  refine Ct.of (by decide) (Nat.le_of_ble_eq_true rfl) ?_
  intro p e s m args below meth c X hP ls hl
  have hx := X.1
  have hb := X.2.1
  have hKV := X.2.2.2.2.2.2.2.1.1
  have hL : ∀ q ∈ ([] : List Loc), gLo g ≤ q.base := fun _ h => by cases h
  have hl : lv_has ls 2 [(0, .ref o), (1, .int x)] := hl
  have hW : MW g o S s.heap := hP
  have hO : Off o s.heap s.heap := Off.rfl'
  refine lv_iload_n hx hb dX5_isNone_0 rfl (lv_at hl 1 rfl) ?_
  refine lv_iconst (v := nI 0) hx hb dX5_isNone_1 (by decide) ?_
  refine lv_aload_n hx hb dX5_isNone_2 rfl (lv_at hl 0 rfl) ?_
  refine mg_7 X rfl hW dX5_isNone_3 ?_
  refine lv_sipush (v := nI 160) hx hb dX5_isNone_6 (by decide) ?_
  refine m_ld X hW 0 (by decide) rfl 160 rfl (by decide) hN dX5_isNone_9 ?_
  refine lv_iconst (v := nI 1) hx hb dX5_isNone_10 (by decide) ?_
  refine lv_isub hx hb dX5_isNone_11 ?_
  refine Cp.callS (ct_X5_in l g x (nI 0) ((nI n) - (nI 1)) ) X hL hl sb_X5_in q1885 rfl rfl (Nat.le_of_ble_eq_true rfl) dX5_isNone_12 ⟨Nat.le_of_ble_eq_true rfl, Nat.le_of_ble_eq_true rfl⟩ (by omega) (by omega) trivial (fun locs hL => ?_)
  refine b_ifne (tgt := 22) X dX5_isNone_15 (by decide) (fun c_15 => ?_) (fun c_15 => ?_)
  ·
    refine lv_iconst (v := nI 0) hx hb dX5_isNone_22 (by decide) ?_
    exact r_iret X hL rfl rfl dX5_isNone_23 (by omega) (by omega) ⟨v_f (by simp [noB, c_15]), rfl⟩
  ·
    refine lv_iconst (v := nI 1) hx hb dX5_isNone_18 (by decide) ?_
    refine lv_goto (tgt := 23) hx hb dX5_isNone_19 (by decide) ?_
    exact r_iret X hL rfl rfl dX5_isNone_23 (by omega) (by omega) ⟨v_t (by simp [noB, c_15]), rfl⟩
theorem vb_X5_isNone : VB yX5_isNone cX5_isNone 2 (some .boolean) 1 := ⟨q1902, qs55, q111, q1903, ⟨by decide, by decide, by decide +kernel⟩⟩

set_option maxRecDepth 100000 in
set_option maxHeartbeats 4000000 in
theorem ct_X5_isNoSide (l : Launch) (g : GT) (x : Int32)  : Ct l g yX5_isNoSide cX5_isNoSide 1 (some .boolean) 2 0 0 [.int x] (fun _ => True) (fun r H H1 => r = some (.int (bI (!inB x (nI 0) (nI 3)))) ∧ H1 = H) := by
  refine Ct.of (by decide) (Nat.le_of_ble_eq_true rfl) ?_
  intro p e s m args below meth c X hP ls hl
  have hx := X.1
  have hb := X.2.1
  have hKV := X.2.2.2.2.2.2.2.1.1
  have hL : ∀ q ∈ ([] : List Loc), gLo g ≤ q.base := fun _ h => by cases h
  have hl : lv_has ls 1 [(0, .int x)] := hl
  refine lv_iload_n hx hb dX5_isNoSide_0 rfl (lv_at hl 0 rfl) ?_
  refine lv_iconst (v := nI 0) hx hb dX5_isNoSide_1 (by decide) ?_
  refine lv_iconst (v := nI 3) hx hb dX5_isNoSide_2 (by decide) ?_
  refine Cp.callS (ct_X5_in l g x (nI 0) (nI 3) ) X hL hl sb_X5_in q1885 rfl rfl (Nat.le_of_ble_eq_true rfl) dX5_isNoSide_3 ⟨Nat.le_of_ble_eq_true rfl, Nat.le_of_ble_eq_true rfl⟩ (by omega) (by omega) trivial (fun locs hL => ?_)
  refine b_ifne (tgt := 13) X dX5_isNoSide_6 (by decide) (fun c_6 => ?_) (fun c_6 => ?_)
  ·
    refine lv_iconst (v := nI 0) hx hb dX5_isNoSide_13 (by decide) ?_
    exact r_iret X hL rfl rfl dX5_isNoSide_14 (by omega) (by omega) ⟨v_f (by simp [c_6]), rfl⟩
  ·
    refine lv_iconst (v := nI 1) hx hb dX5_isNoSide_9 (by decide) ?_
    refine lv_goto (tgt := 14) hx hb dX5_isNoSide_10 (by decide) ?_
    exact r_iret X hL rfl rfl dX5_isNoSide_14 (by omega) (by omega) ⟨v_t (by simp [c_6]), rfl⟩
theorem sb_X5_isNoSide : SB yX5_isNoSide cX5_isNoSide 1 (some .boolean) 1 := ⟨q1917, q111, q1918, ⟨by decide, by decide, by decide +kernel⟩⟩

set_option maxRecDepth 100000 in
set_option maxHeartbeats 4000000 in
theorem ct_X5_isNoValue (l : Launch) (g : GT) (x : Int32)  : Ct l g yX5_isNoValue cX5_isNoValue 1 (some .boolean) 2 0 0 [.int x] (fun _ => True) (fun r H H1 => r = some (.int (bI (!inB x (nI 0) (nI 99)))) ∧ H1 = H) := by
  refine Ct.of (by decide) (Nat.le_of_ble_eq_true rfl) ?_
  intro p e s m args below meth c X hP ls hl
  have hx := X.1
  have hb := X.2.1
  have hKV := X.2.2.2.2.2.2.2.1.1
  have hL : ∀ q ∈ ([] : List Loc), gLo g ≤ q.base := fun _ h => by cases h
  have hl : lv_has ls 1 [(0, .int x)] := hl
  refine lv_iload_n hx hb dX5_isNoValue_0 rfl (lv_at hl 0 rfl) ?_
  refine lv_iconst (v := nI 0) hx hb dX5_isNoValue_1 (by decide) ?_
  refine lv_bipush (v := nI 99) hx hb dX5_isNoValue_2 (by decide) ?_
  refine Cp.callS (ct_X5_in l g x (nI 0) (nI 99) ) X hL hl sb_X5_in q1885 rfl rfl (Nat.le_of_ble_eq_true rfl) dX5_isNoValue_4 ⟨Nat.le_of_ble_eq_true rfl, Nat.le_of_ble_eq_true rfl⟩ (by omega) (by omega) trivial (fun locs hL => ?_)
  refine b_ifne (tgt := 14) X dX5_isNoValue_7 (by decide) (fun c_7 => ?_) (fun c_7 => ?_)
  ·
    refine lv_iconst (v := nI 0) hx hb dX5_isNoValue_14 (by decide) ?_
    exact r_iret X hL rfl rfl dX5_isNoValue_15 (by omega) (by omega) ⟨v_f (by simp [c_7]), rfl⟩
  ·
    refine lv_iconst (v := nI 1) hx hb dX5_isNoValue_10 (by decide) ?_
    refine lv_goto (tgt := 15) hx hb dX5_isNoValue_11 (by decide) ?_
    exact r_iret X hL rfl rfl dX5_isNoValue_15 (by omega) (by omega) ⟨v_t (by simp [c_7]), rfl⟩
theorem sb_X5_isNoValue : SB yX5_isNoValue cX5_isNoValue 1 (some .boolean) 1 := ⟨q1883, q111, q1884, ⟨by decide, by decide, by decide +kernel⟩⟩

set_option maxRecDepth 100000 in
set_option maxHeartbeats 4000000 in
theorem ct_X5_value (l : Launch) (g : GT) (o i q : Nat) (S : MS) (hi : i < 40) (hq : q < 4) : Ct l g yX5_value cX5_value 3 (some .int) 1 0 0 [.ref o, .int (nI i), .int (nI q)] (MW g o S) (fun r H H1 => r = some (.int (S.1 0 (4 * i + q))) ∧ H1 = H) := by
  refine Ct.of (by decide) (Nat.le_of_ble_eq_true rfl) ?_
  intro p e s m args below meth c X hP ls hl
  have hx := X.1
  have hb := X.2.1
  have hKV := X.2.2.2.2.2.2.2.1.1
  have hL : ∀ q ∈ ([] : List Loc), gLo g ≤ q.base := fun _ h => by cases h
  have hl : lv_has ls 3 [(0, .ref o), (1, .int (nI i)), (2, .int (nI q))] := hl
  have hW : MW g o S s.heap := hP
  have hO : Off o s.heap s.heap := Off.rfl'
  refine lv_aload_n hx hb dX5_value_0 rfl (lv_at hl 0 rfl) ?_
  refine mg_7 X rfl hW dX5_value_1 ?_
  refine lv_iconst (v := nI 0) hx hb dX5_value_4 (by decide) ?_
  refine lv_iconst (v := nI 4) hx hb dX5_value_5 (by decide) ?_
  refine lv_iload_n hx hb dX5_value_6 rfl (lv_at hl 1 rfl) ?_
  refine n_imul X dX5_value_7 ?_
  refine n_iadd X dX5_value_8 ?_
  refine lv_iload_n hx hb dX5_value_9 rfl (lv_at hl 2 rfl) ?_
  refine n_iadd X dX5_value_10 ?_
  refine m_ld X hW 0 (by decide) rfl (4 * i + q) (congrArg nI (by omega)) (by show 4 * i + q < 179; omega) rfl dX5_value_11 ?_
  exact r_iret X hL rfl rfl dX5_value_12 (by omega) (by omega) ⟨rfl, rfl⟩
theorem vb_X5_value : VB yX5_value cX5_value 3 (some .int) 2 := ⟨q1921, qs58, q111, q1922, ⟨by decide, by decide, by decide +kernel⟩⟩

set_option maxRecDepth 100000 in
set_option maxHeartbeats 4000000 in
theorem ct_X5_matters (l : Launch) (g : GT) (o q : Nat) (S : MS) (hq : q < 4) : Ct l g yX5_matters cX5_matters 2 (some .boolean) 1 0 0 [.ref o, .int (nI q)] (MW g o S) (fun r H H1 => r = some (.int (bI (matB (mw (S.1 0)) q))) ∧ H1 = H) := by
  refine Ct.of (by decide) (Nat.le_of_ble_eq_true rfl) ?_
  intro p e s m args below meth c X hP ls hl
  have hx := X.1
  have hb := X.2.1
  have hKV := X.2.2.2.2.2.2.2.1.1
  have hL : ∀ q ∈ ([] : List Loc), gLo g ≤ q.base := fun _ h => by cases h
  have hl : lv_has ls 2 [(0, .ref o), (1, .int (nI q))] := hl
  have hW : MW g o S s.heap := hP
  have hO : Off o s.heap s.heap := Off.rfl'
  refine lv_aload_n hx hb dX5_matters_0 rfl (lv_at hl 0 rfl) ?_
  refine mg_7 X rfl hW dX5_matters_1 ?_
  refine lv_sipush (v := nI 161) hx hb dX5_matters_4 (by decide) ?_
  refine lv_iload_n hx hb dX5_matters_7 rfl (lv_at hl 1 rfl) ?_
  refine n_iadd X dX5_matters_8 ?_
  refine m_ld X hW 0 (by decide) rfl (161 + q) rfl (by show 161 + q < 179; omega) rfl dX5_matters_9 ?_
  refine lv_iconst (v := nI 2) hx hb dX5_matters_10 (by decide) ?_
  refine lv_icmp_ge (tgt := 18) hx hb dX5_matters_11 (by decide) (fun c_11 => ?_) (fun c_11 => ?_)
  ·
    refine lv_iconst (v := nI 0) hx hb dX5_matters_18 (by decide) ?_
    exact r_iret X hL rfl rfl dX5_matters_19 (by omega) (by omega) ⟨v_f (decide_eq_false (nlt_of_le c_11)), rfl⟩
  ·
    refine lv_iconst (v := nI 1) hx hb dX5_matters_14 (by decide) ?_
    refine lv_goto (tgt := 19) hx hb dX5_matters_15 (by decide) ?_
    exact r_iret X hL rfl rfl dX5_matters_19 (by omega) (by omega) ⟨v_t (decide_eq_true (lt_of_nle c_11)), rfl⟩
theorem vb_X5_matters : VB yX5_matters cX5_matters 2 (some .boolean) 1 := ⟨q1933, qs60, q111, q1934, ⟨by decide, by decide, by decide +kernel⟩⟩

set_option maxRecDepth 100000 in
set_option maxHeartbeats 4000000 in
theorem ct_X5_mattering (l : Launch) (g : GT) (o : Nat) (S : MS)  : Ct l g yX5_mattering cX5_mattering 3 (some .int) 2 0 0 [.ref o] (MW g o S) (fun r H H1 => r = some (.int (matI (mw (S.1 0)))) ∧ H1 = H) := by
  refine Ct.of (by decide) (Nat.le_of_ble_eq_true rfl) ?_
  intro p e s m args below meth c X hP ls hl
  have hx := X.1
  have hb := X.2.1
  have hKV := X.2.2.2.2.2.2.2.1.1
  have hL : ∀ q ∈ ([] : List Loc), gLo g ≤ q.base := fun _ h => by cases h
  have hl : lv_has ls 3 [(0, .ref o)] := hl
  have hW : MW g o S s.heap := hP
  have hO : Off o s.heap s.heap := Off.rfl'
  refine lv_iconst (v := nI 0) hx hb dX5_mattering_0 (by decide) ?_
  refine lv_istore_n (lv' := [(1, .int _), (0, .ref _)]) hx hb dX5_mattering_1 rfl hl (by decide) rfl (fun ls hl => ?_)
  refine lv_iconst (v := nI 0) hx hb dX5_mattering_2 (by decide) ?_
  refine lv_istore_n (lv' := [(2, .int _), (1, .int _), (0, .ref _)]) hx hb dX5_mattering_3 rfl hl (by decide) rfl (fun ls hl => ?_)
  have L4 : ∀ (fuel : Nat) (k : Nat) (v : Int32), 4 - k < fuel → v = orB (matB (mw (S.1 0))) k → k ≤ 4 → ∀ (locs : List Loc), (∀ q ∈ locs, gLo g ≤ q.base) → ∀ (ls : Array Slot), lv_has ls 3 [(0, .ref o), (1, .int v), (2, .int (nI k))] → W p l e (rmL 2 0 0) s m args below meth c s.heap locs 0 0 (MQ below (Qcg (fun r H H1 => r = some (.int (matI (mw (S.1 0)))) ∧ H1 = H)) args s 0 0 (fre g)) (F0 m 4 ls []) := by
    intro fuel
    induction fuel with
    | zero => intro k v hf; exact absurd hf (Nat.not_lt_zero _)
    | succ fuel ih4 =>
      intro k v hf hv hk  locs hL ls hl
      refine lv_iload_n hx hb dX5_mattering_4 rfl (lv_at hl 2 rfl) ?_
      refine lv_iconst (v := nI 4) hx hb dX5_mattering_5 (by decide) ?_
      refine n_icmp_ge (tgt := 33) X dX5_mattering_6 (by decide) (by omega) (by omega) (fun c_6 => ?_) (fun c_6 => ?_)
      ·
        refine lv_iload_n hx hb dX5_mattering_33 rfl (lv_at hl 1 rfl) ?_
        exact r_iret X hL rfl rfl dX5_mattering_34 (by omega) (by omega) ⟨v_i (by rw [hv, show k = 4 by omega]; rfl), rfl⟩
      ·
        refine lv_iload_n hx hb dX5_mattering_9 rfl (lv_at hl 1 rfl) ?_
        refine lv_aload_n hx hb dX5_mattering_10 rfl (lv_at hl 0 rfl) ?_
        refine lv_iload_n hx hb dX5_mattering_11 rfl (lv_at hl 2 rfl) ?_
        refine Cp.callV (ct_X5_matters l g o k S (by omega)) X hL hl vb_X5_matters q1931 (hW.2.1.recv hKV rfl) rfl rfl (Nat.le_of_ble_eq_true rfl) dX5_mattering_12 ⟨Nat.le_of_ble_eq_true rfl, Nat.le_of_ble_eq_true rfl⟩ (by omega) (by omega) hW (fun locs hL => ?_)
        refine b_ifeq (tgt := 24) X dX5_mattering_15 (by decide) (fun c_15 => ?_) (fun c_15 => ?_)
        ·
          refine lv_iconst (v := nI 0) hx hb dX5_mattering_24 (by decide) ?_
          refine lv_ior hx hb dX5_mattering_25 ?_
          refine lv_istore_n (lv' := [(1, .int _), (0, .ref _), (2, .int _)]) hx hb dX5_mattering_26 rfl hl (by decide) rfl (fun ls hl => ?_)
          refine lv_iinc (v := nI (k + 1)) (lv' := [(2, .int _), (1, .int _), (0, .ref _)]) hx hb dX5_mattering_27 hl (k := 2) rfl (nI_iinc _ 1 rfl) (by decide) rfl (fun ls hl => ?_)
          refine lv_goto (tgt := 4) hx hb dX5_mattering_30 (by decide) ?_
          exact ih4 _ _ (by omega) (by rw [hv]; simp [orB, c_15]) (by omega) _ hL ls (lv_sub hl [2, 1, 0] rfl)
        ·
          refine lv_iconst (v := nI 1) hx hb dX5_mattering_18 (by decide) ?_
          refine lv_iload_n hx hb dX5_mattering_19 rfl (lv_at hl 2 rfl) ?_
          refine lv_ishl hx hb dX5_mattering_20 ?_
          refine lv_goto (tgt := 25) hx hb dX5_mattering_21 (by decide) ?_
          refine lv_ior hx hb dX5_mattering_25 ?_
          refine lv_istore_n (lv' := [(1, .int _), (0, .ref _), (2, .int _)]) hx hb dX5_mattering_26 rfl hl (by decide) rfl (fun ls hl => ?_)
          refine lv_iinc (v := nI (k + 1)) (lv' := [(2, .int _), (1, .int _), (0, .ref _)]) hx hb dX5_mattering_27 hl (k := 2) rfl (nI_iinc _ 1 rfl) (by decide) rfl (fun ls hl => ?_)
          refine lv_goto (tgt := 4) hx hb dX5_mattering_30 (by decide) ?_
          exact ih4 _ _ (by omega) (by rw [hv]; simp [orB, c_15]) (by omega) _ hL ls (lv_sub hl [2, 1, 0] rfl)
  exact L4 5 0 (nI 0) (by omega) rfl (by omega) _ hL ls (lv_sub hl [2, 1, 0] rfl)
theorem vb_X5_mattering : VB yX5_mattering cX5_mattering 3 (some .int) 0 := ⟨q1929, qs59, q111, q1930, ⟨by decide, by decide, by decide +kernel⟩⟩

set_option maxRecDepth 100000 in
set_option maxHeartbeats 4000000 in
theorem ct_X5_good (l : Launch) (g : GT) (o i q : Nat) (S : MS) (hi : i < 40) (hq : q < 4) : Ct l g yX5_good cX5_good 3 (some .int) 2 0 0 [.ref o, .int (nI i), .int (nI q)] (MW g o S) (fun r H H1 => r = some (.int (goodI (mw (S.1 0)) (mv (S.1 0) i) q)) ∧ H1 = H) := by
  refine Ct.of (by decide) (Nat.le_of_ble_eq_true rfl) ?_
  intro p e s m args below meth c X hP ls hl
  have hx := X.1
  have hb := X.2.1
  have hKV := X.2.2.2.2.2.2.2.1.1
  have hL : ∀ q ∈ ([] : List Loc), gLo g ≤ q.base := fun _ h => by cases h
  have hl : lv_has ls 3 [(0, .ref o), (1, .int (nI i)), (2, .int (nI q))] := hl
  have hW : MW g o S s.heap := hP
  have hO : Off o s.heap s.heap := Off.rfl'
  refine lv_aload_n hx hb dX5_good_0 rfl (lv_at hl 0 rfl) ?_
  refine mg_7 X rfl hW dX5_good_1 ?_
  refine lv_sipush (v := nI 161) hx hb dX5_good_4 (by decide) ?_
  refine lv_iload_n hx hb dX5_good_7 rfl (lv_at hl 2 rfl) ?_
  refine n_iadd X dX5_good_8 ?_
  refine m_ld X hW 0 (by decide) rfl (161 + q) rfl (by show 161 + q < 179; omega) rfl dX5_good_9 ?_
  refine lv_iconst (v := nI 1) hx hb dX5_good_10 (by decide) ?_
  refine lv_icmp_ne (tgt := 23) hx hb dX5_good_11 (by decide) (fun c_11 => ?_) (fun c_11 => ?_)
  ·
    refine lv_bipush (v := nI 99) hx hb dX5_good_23 (by decide) ?_
    refine lv_aload_n hx hb dX5_good_25 rfl (lv_at hl 0 rfl) ?_
    refine lv_iload_n hx hb dX5_good_26 rfl (lv_at hl 1 rfl) ?_
    refine lv_iload_n hx hb dX5_good_27 rfl (lv_at hl 2 rfl) ?_
    refine Cp.callV (ct_X5_value l g o i q S (by omega) (by omega)) X hL hl vb_X5_value q1919 (hW.2.1.recv hKV rfl) rfl rfl (Nat.le_of_ble_eq_true rfl) dX5_good_28 ⟨Nat.le_of_ble_eq_true rfl, Nat.le_of_ble_eq_true rfl⟩ (by omega) (by omega) hW (fun locs hL => ?_)
    refine lv_isub hx hb dX5_good_31 ?_
    exact r_iret X hL rfl rfl dX5_good_32 (by omega) (by omega) ⟨v_i (by simp [goodI, mw, mv, c_11]), rfl⟩
  ·
    refine lv_aload_n hx hb dX5_good_14 rfl (lv_at hl 0 rfl) ?_
    refine lv_iload_n hx hb dX5_good_15 rfl (lv_at hl 1 rfl) ?_
    refine lv_iload_n hx hb dX5_good_16 rfl (lv_at hl 2 rfl) ?_
    refine Cp.callV (ct_X5_value l g o i q S (by omega) (by omega)) X hL hl vb_X5_value q1919 (hW.2.1.recv hKV rfl) rfl rfl (Nat.le_of_ble_eq_true rfl) dX5_good_17 ⟨Nat.le_of_ble_eq_true rfl, Nat.le_of_ble_eq_true rfl⟩ (by omega) (by omega) hW (fun locs hL => ?_)
    refine lv_goto (tgt := 32) hx hb dX5_good_20 (by decide) ?_
    exact r_iret X hL rfl rfl dX5_good_32 (by omega) (by omega) ⟨v_i (by simp [goodI, mw, mv, c_11]), rfl⟩
theorem vb_X5_good : VB yX5_good cX5_good 3 (some .int) 2 := ⟨q1953, qs65, q111, q1954, ⟨by decide, by decide, by decide +kernel⟩⟩

set_option maxRecDepth 100000 in
set_option maxHeartbeats 4000000 in
theorem ct_X5_counts (l : Launch) (g : GT) (o i : Nat) (S : MS) (hi : i < 40) : Ct l g yX5_counts cX5_counts 3 (some .boolean) 2 0 0 [.ref o, .int (nI i)] (MW g o S) (fun r H H1 => r = some (.int (bI (cB (S.1 0) i))) ∧ H1 = H) := by
  refine Ct.of (by decide) (Nat.le_of_ble_eq_true rfl) ?_
  intro p e s m args below meth c X hP ls hl
  have hx := X.1
  have hb := X.2.1
  have hKV := X.2.2.2.2.2.2.2.1.1
  have hL : ∀ q ∈ ([] : List Loc), gLo g ≤ q.base := fun _ h => by cases h
  have hl : lv_has ls 3 [(0, .ref o), (1, .int (nI i))] := hl
  have hW : MW g o S s.heap := hP
  have hO : Off o s.heap s.heap := Off.rfl'
  refine lv_iconst (v := nI 0) hx hb dX5_counts_0 (by decide) ?_
  refine lv_istore_n (lv' := [(2, .int _), (0, .ref _), (1, .int _)]) hx hb dX5_counts_1 rfl hl (by decide) rfl (fun ls hl => ?_)
  have L2 : ∀ (fuel : Nat) (k : Nat), 4 - k < fuel → allB (fun s => inB (mv (S.1 0) i s) (mle (S.1 0) s) (mgr (S.1 0) s)) k = true → k ≤ 4 → ∀ (locs : List Loc), (∀ q ∈ locs, gLo g ≤ q.base) → ∀ (ls : Array Slot), lv_has ls 3 [(0, .ref o), (1, .int (nI i)), (2, .int (nI k))] → W p l e (rmL 2 0 0) s m args below meth c s.heap locs 0 0 (MQ below (Qcg (fun r H H1 => r = some (.int (bI (cB (S.1 0) i))) ∧ H1 = H)) args s 0 0 (fre g)) (F0 m 2 ls []) := by
    intro fuel
    induction fuel with
    | zero => intro k hf; exact absurd hf (Nat.not_lt_zero _)
    | succ fuel ih2 =>
      intro k hf hv hk  locs hL ls hl
      refine lv_iload_n hx hb dX5_counts_2 rfl (lv_at hl 2 rfl) ?_
      refine lv_iconst (v := nI 4) hx hb dX5_counts_3 (by decide) ?_
      refine n_icmp_ge (tgt := 47) X dX5_counts_4 (by decide) (by omega) (by omega) (fun c_4 => ?_) (fun c_4 => ?_)
      ·
        refine lv_iconst (v := nI 1) hx hb dX5_counts_47 (by decide) ?_
        exact r_iret X hL rfl rfl dX5_counts_48 (by omega) (by omega) ⟨v_t (by have h4 : k = 4 := (by omega); rw [h4] at hv; exact hv), rfl⟩
      ·
        refine lv_aload_n hx hb dX5_counts_7 rfl (lv_at hl 0 rfl) ?_
        refine lv_iload_n hx hb dX5_counts_8 rfl (lv_at hl 1 rfl) ?_
        refine lv_iload_n hx hb dX5_counts_9 rfl (lv_at hl 2 rfl) ?_
        refine Cp.callV (ct_X5_value l g o i k S (by omega) (by omega)) X hL hl vb_X5_value q1919 (hW.2.1.recv hKV rfl) rfl rfl (Nat.le_of_ble_eq_true rfl) dX5_counts_10 ⟨Nat.le_of_ble_eq_true rfl, Nat.le_of_ble_eq_true rfl⟩ (by omega) (by omega) hW (fun locs hL => ?_)
        refine lv_aload_n hx hb dX5_counts_13 rfl (lv_at hl 0 rfl) ?_
        refine mg_7 X rfl hW dX5_counts_14 ?_
        refine lv_sipush (v := nI 165) hx hb dX5_counts_17 (by decide) ?_
        refine lv_iload_n hx hb dX5_counts_20 rfl (lv_at hl 2 rfl) ?_
        refine n_iadd X dX5_counts_21 ?_
        refine m_ld X hW 0 (by decide) rfl (165 + k) rfl (by show 165 + k < 179; omega) rfl dX5_counts_22 ?_
        refine lv_aload_n hx hb dX5_counts_23 rfl (lv_at hl 0 rfl) ?_
        refine mg_7 X rfl hW dX5_counts_24 ?_
        refine lv_sipush (v := nI 169) hx hb dX5_counts_27 (by decide) ?_
        refine lv_iload_n hx hb dX5_counts_30 rfl (lv_at hl 2 rfl) ?_
        refine n_iadd X dX5_counts_31 ?_
        refine m_ld X hW 0 (by decide) rfl (169 + k) rfl (by show 169 + k < 179; omega) rfl dX5_counts_32 ?_
        refine Cp.callS (ct_X5_in l g (S.1 0 (4 * i + k)) ((S).1 0 (165 + k)) ((S).1 0 (169 + k)) ) X hL hl sb_X5_in q1885 rfl rfl (Nat.le_of_ble_eq_true rfl) dX5_counts_33 ⟨Nat.le_of_ble_eq_true rfl, Nat.le_of_ble_eq_true rfl⟩ (by omega) (by omega) trivial (fun locs hL => ?_)
        refine b_ifne (tgt := 41) X dX5_counts_36 (by decide) (fun c_36 => ?_) (fun c_36 => ?_)
        ·
          refine lv_iinc (v := nI (k + 1)) (lv' := [(2, .int _), (0, .ref _), (1, .int _)]) hx hb dX5_counts_41 hl (k := 2) rfl (nI_iinc _ 1 rfl) (by decide) rfl (fun ls hl => ?_)
          refine lv_goto (tgt := 2) hx hb dX5_counts_44 (by decide) ?_
          exact ih2 _ (by omega) (allB_s hv c_36) (by omega) _ hL ls (lv_sub hl [1, 2, 0] rfl)
        ·
          refine lv_iconst (v := nI 0) hx hb dX5_counts_39 (by decide) ?_
          exact r_iret X hL rfl rfl dX5_counts_40 (by omega) (by omega) ⟨v_f (allB_false (k := k) c_36 4 c_4), rfl⟩
  exact L2 5 0 (by omega) rfl (by omega) _ hL ls (lv_sub hl [1, 2, 0] rfl)
theorem vb_X5_counts : VB yX5_counts cX5_counts 3 (some .boolean) 1 := ⟨q1941, qs62, q111, q1942, ⟨by decide, by decide, by decide +kernel⟩⟩

set_option maxRecDepth 100000 in
set_option maxHeartbeats 4000000 in
theorem ct_X5_countingOnes (l : Launch) (g : GT) (o n : Nat) (S : MS) (hN : S.1 0 160 = nI n) (hn : n ≤ 40) : Ct l g yX5_countingOnes cX5_countingOnes 3 (some .int) 3 0 0 [.ref o] (MW g o S) (fun r H H1 => r = some (.int (nI (cnt (cB (S.1 0)) n))) ∧ H1 = H) := by
  refine Ct.of (by decide) (Nat.le_of_ble_eq_true rfl) ?_
  intro p e s m args below meth c X hP ls hl
  have hx := X.1
  have hb := X.2.1
  have hKV := X.2.2.2.2.2.2.2.1.1
  have hL : ∀ q ∈ ([] : List Loc), gLo g ≤ q.base := fun _ h => by cases h
  have hl : lv_has ls 3 [(0, .ref o)] := hl
  have hW : MW g o S s.heap := hP
  have hO : Off o s.heap s.heap := Off.rfl'
  refine lv_iconst (v := nI 0) hx hb dX5_countingOnes_0 (by decide) ?_
  refine lv_istore_n (lv' := [(1, .int _), (0, .ref _)]) hx hb dX5_countingOnes_1 rfl hl (by decide) rfl (fun ls hl => ?_)
  refine lv_iconst (v := nI 0) hx hb dX5_countingOnes_2 (by decide) ?_
  refine lv_istore_n (lv' := [(2, .int _), (1, .int _), (0, .ref _)]) hx hb dX5_countingOnes_3 rfl hl (by decide) rfl (fun ls hl => ?_)
  have L4 : ∀ (fuel : Nat) (k v : Nat), n - k < fuel → v = cnt (cB (S.1 0)) k → k ≤ n → ∀ (locs : List Loc), (∀ q ∈ locs, gLo g ≤ q.base) → ∀ (ls : Array Slot), lv_has ls 3 [(0, .ref o), (1, .int (nI v)), (2, .int (nI k))] → W p l e (rmL 3 0 0) s m args below meth c s.heap locs 0 0 (MQ below (Qcg (fun r H H1 => r = some (.int (nI (cnt (cB (S.1 0)) n))) ∧ H1 = H)) args s 0 0 (fre g)) (F0 m 4 ls []) := by
    intro fuel
    induction fuel with
    | zero => intro k v hf; exact absurd hf (Nat.not_lt_zero _)
    | succ fuel ih4 =>
      intro k v hf hv hk  locs hL ls hl
      have hvb : v ≤ k := by rw [hv]; exact cnt_le _ _
      refine lv_iload_n hx hb dX5_countingOnes_4 rfl (lv_at hl 2 rfl) ?_
      refine lv_aload_n hx hb dX5_countingOnes_5 rfl (lv_at hl 0 rfl) ?_
      refine mg_7 X rfl hW dX5_countingOnes_6 ?_
      refine lv_sipush (v := nI 160) hx hb dX5_countingOnes_9 (by decide) ?_
      refine m_ld X hW 0 (by decide) rfl 160 rfl (by decide) hN dX5_countingOnes_12 ?_
      refine n_icmp_ge (tgt := 38) X dX5_countingOnes_13 (by decide) (by omega) (by omega) (fun c_13 => ?_) (fun c_13 => ?_)
      ·
        refine lv_iload_n hx hb dX5_countingOnes_38 rfl (lv_at hl 1 rfl) ?_
        exact r_iret X hL rfl rfl dX5_countingOnes_39 (by omega) (by omega) ⟨v_n (by rw [hv, show k = n by omega]), rfl⟩
      ·
        refine lv_iload_n hx hb dX5_countingOnes_16 rfl (lv_at hl 1 rfl) ?_
        refine lv_aload_n hx hb dX5_countingOnes_17 rfl (lv_at hl 0 rfl) ?_
        refine lv_iload_n hx hb dX5_countingOnes_18 rfl (lv_at hl 2 rfl) ?_
        refine Cp.callV (ct_X5_counts l g o k S (by omega)) X hL hl vb_X5_counts q1939 (hW.2.1.recv hKV rfl) rfl rfl (Nat.le_of_ble_eq_true rfl) dX5_countingOnes_19 ⟨Nat.le_of_ble_eq_true rfl, Nat.le_of_ble_eq_true rfl⟩ (by omega) (by omega) hW (fun locs hL => ?_)
        refine b_ifeq (tgt := 29) X dX5_countingOnes_22 (by decide) (fun c_22 => ?_) (fun c_22 => ?_)
        ·
          refine lv_iconst (v := nI 0) hx hb dX5_countingOnes_29 (by decide) ?_
          refine n_iadd X dX5_countingOnes_30 ?_
          refine lv_istore_n (lv' := [(1, .int _), (0, .ref _), (2, .int _)]) hx hb dX5_countingOnes_31 rfl hl (by decide) rfl (fun ls hl => ?_)
          refine lv_iinc (v := nI (k + 1)) (lv' := [(2, .int _), (1, .int _), (0, .ref _)]) hx hb dX5_countingOnes_32 hl (k := 2) rfl (nI_iinc _ 1 rfl) (by decide) rfl (fun ls hl => ?_)
          refine lv_goto (tgt := 4) hx hb dX5_countingOnes_35 (by decide) ?_
          exact ih4 _ _ (by omega) (by first | exact cnt_t hv c_22 | exact cnt_f hv c_22) (by omega) _ hL ls (lv_sub hl [2, 1, 0] rfl)
        ·
          refine lv_iconst (v := nI 1) hx hb dX5_countingOnes_25 (by decide) ?_
          refine lv_goto (tgt := 30) hx hb dX5_countingOnes_26 (by decide) ?_
          refine n_iadd X dX5_countingOnes_30 ?_
          refine lv_istore_n (lv' := [(1, .int _), (0, .ref _), (2, .int _)]) hx hb dX5_countingOnes_31 rfl hl (by decide) rfl (fun ls hl => ?_)
          refine lv_iinc (v := nI (k + 1)) (lv' := [(2, .int _), (1, .int _), (0, .ref _)]) hx hb dX5_countingOnes_32 hl (k := 2) rfl (nI_iinc _ 1 rfl) (by decide) rfl (fun ls hl => ?_)
          refine lv_goto (tgt := 4) hx hb dX5_countingOnes_35 (by decide) ?_
          exact ih4 _ _ (by omega) (by first | exact cnt_t hv c_22 | exact cnt_f hv c_22) (by omega) _ hL ls (lv_sub hl [2, 1, 0] rfl)
  exact L4 (n + 1) 0 0 (by omega) rfl (by omega) _ hL ls (lv_sub hl [2, 1, 0] rfl)
theorem vb_X5_countingOnes : VB yX5_countingOnes cX5_countingOnes 3 (some .int) 0 := ⟨q1965, qs66, q111, q1966, ⟨by decide, by decide, by decide +kernel⟩⟩

set_option maxRecDepth 100000 in
set_option maxHeartbeats 4000000 in
theorem ct_X5_better (l : Launch) (g : GT) (o i j : Nat) (S : MS) (sd : Int32) (hi : i < 40) (hj : j < 40) : Ct l g yX5_better cX5_better 6 (some .int) 3 0 0 [.ref o, .int (nI i), .int (nI j), .int sd] (MW g o S) (fun r H H1 => r = some (.int (nI (betN (mw (S.1 0)) (mv (S.1 0) i) (mv (S.1 0) j) (hasB sd)))) ∧ H1 = H) := by
  refine Ct.of (by decide) (Nat.le_of_ble_eq_true rfl) ?_
  intro p e s m args below meth c X hP ls hl
  have hx := X.1
  have hb := X.2.1
  have hKV := X.2.2.2.2.2.2.2.1.1
  have hL : ∀ q ∈ ([] : List Loc), gLo g ≤ q.base := fun _ h => by cases h
  have hl : lv_has ls 6 [(0, .ref o), (1, .int (nI i)), (2, .int (nI j)), (3, .int sd)] := hl
  have hW : MW g o S s.heap := hP
  have hO : Off o s.heap s.heap := Off.rfl'
  refine lv_iconst (v := nI 0) hx hb dX5_better_0 (by decide) ?_
  refine lv_istore (lv' := [(4, .int _), (0, .ref _), (1, .int _), (2, .int _), (3, .int _)]) hx hb dX5_better_1 hl (by decide) rfl (fun ls hl => ?_)
  refine lv_iconst (v := nI 0) hx hb dX5_better_3 (by decide) ?_
  refine lv_istore (lv' := [(5, .int _), (4, .int _), (0, .ref _), (1, .int _), (2, .int _), (3, .int _)]) hx hb dX5_better_4 hl (by decide) rfl (fun ls hl => ?_)
  have L6 : ∀ (fuel : Nat) (k v : Nat), 4 - k < fuel → v = cnt (fun s => hasB sd s && decide (goodI (mw (S.1 0)) (mv (S.1 0) j) s < goodI (mw (S.1 0)) (mv (S.1 0) i) s)) k → k ≤ 4 → ∀ (locs : List Loc), (∀ q ∈ locs, gLo g ≤ q.base) → ∀ (ls : Array Slot), lv_has ls 6 [(0, .ref o), (1, .int (nI i)), (2, .int (nI j)), (3, .int sd), (4, .int (nI v)), (5, .int (nI k))] → W p l e (rmL 3 0 0) s m args below meth c s.heap locs 0 0 (MQ below (Qcg (fun r H H1 => r = some (.int (nI (betN (mw (S.1 0)) (mv (S.1 0) i) (mv (S.1 0) j) (hasB sd)))) ∧ H1 = H)) args s 0 0 (fre g)) (F0 m 6 ls []) := by
    intro fuel
    induction fuel with
    | zero => intro k v hf; exact absurd hf (Nat.not_lt_zero _)
    | succ fuel ih6 =>
      intro k v hf hv hk  locs hL ls hl
      have hvb : v ≤ k := by rw [hv]; exact cnt_le _ _
      refine lv_iload hx hb dX5_better_6 (lv_at hl 5 rfl) ?_
      refine lv_iconst (v := nI 4) hx hb dX5_better_8 (by decide) ?_
      refine n_icmp_ge (tgt := 55) X dX5_better_9 (by decide) (by omega) (by omega) (fun c_9 => ?_) (fun c_9 => ?_)
      ·
        refine lv_iload hx hb dX5_better_55 (lv_at hl 4 rfl) ?_
        exact r_iret X hL rfl rfl dX5_better_57 (by omega) (by omega) ⟨v_n (by rw [hv, show k = 4 by omega]; rfl), rfl⟩
      ·
        refine lv_iload hx hb dX5_better_12 (lv_at hl 4 rfl) ?_
        refine lv_iload_n hx hb dX5_better_14 rfl (lv_at hl 3 rfl) ?_
        refine lv_iload hx hb dX5_better_15 (lv_at hl 5 rfl) ?_
        refine lv_ishr hx hb dX5_better_17 ?_
        refine lv_iconst (v := nI 1) hx hb dX5_better_18 (by decide) ?_
        refine lv_iand hx hb dX5_better_19 ?_
        refine lv_iconst (v := nI 1) hx hb dX5_better_20 (by decide) ?_
        refine lv_icmp_ne (tgt := 45) hx hb dX5_better_21 (by decide) (fun c_21 => ?_) (fun c_21 => ?_)
        ·
          refine lv_iconst (v := nI 0) hx hb dX5_better_45 (by decide) ?_
          refine n_iadd X dX5_better_46 ?_
          refine lv_istore (lv' := [(4, .int _), (0, .ref _), (1, .int _), (2, .int _), (3, .int _), (5, .int _)]) hx hb dX5_better_47 hl (by decide) rfl (fun ls hl => ?_)
          refine lv_iinc (v := nI (k + 1)) (lv' := [(5, .int _), (4, .int _), (0, .ref _), (1, .int _), (2, .int _), (3, .int _)]) hx hb dX5_better_49 hl (k := 5) rfl (nI_iinc _ 1 rfl) (by decide) rfl (fun ls hl => ?_)
          refine lv_goto (tgt := 6) hx hb dX5_better_52 (by decide) ?_
          exact ih6 _ _ (by omega) (by first | (refine cnt_f hv ?_; simp [hasB, c_21]; done) | (refine cnt_f hv ?_; simp [hasB, c_21, c_38]; done) | (refine cnt_t hv ?_; simp [hasB, c_21, lt_of_nle c_38]; done)) (by omega) _ hL ls (lv_sub hl [2, 3, 4, 5, 1, 0] rfl)
        ·
          refine lv_aload_n hx hb dX5_better_24 rfl (lv_at hl 0 rfl) ?_
          refine lv_iload_n hx hb dX5_better_25 rfl (lv_at hl 1 rfl) ?_
          refine lv_iload hx hb dX5_better_26 (lv_at hl 5 rfl) ?_
          refine Cp.callV (ct_X5_good l g o i k S (by omega) (by omega)) X hL hl vb_X5_good q1951 (hW.2.1.recv hKV rfl) rfl rfl (Nat.le_of_ble_eq_true rfl) dX5_better_28 ⟨Nat.le_of_ble_eq_true rfl, Nat.le_of_ble_eq_true rfl⟩ (by omega) (by omega) hW (fun locs hL => ?_)
          refine lv_aload_n hx hb dX5_better_31 rfl (lv_at hl 0 rfl) ?_
          refine lv_iload_n hx hb dX5_better_32 rfl (lv_at hl 2 rfl) ?_
          refine lv_iload hx hb dX5_better_33 (lv_at hl 5 rfl) ?_
          refine Cp.callV (ct_X5_good l g o j k S (by omega) (by omega)) X hL hl vb_X5_good q1951 (hW.2.1.recv hKV rfl) rfl rfl (Nat.le_of_ble_eq_true rfl) dX5_better_35 ⟨Nat.le_of_ble_eq_true rfl, Nat.le_of_ble_eq_true rfl⟩ (by omega) (by omega) hW (fun locs hL => ?_)
          refine lv_icmp_le (tgt := 45) hx hb dX5_better_38 (by decide) (fun c_38 => ?_) (fun c_38 => ?_)
          ·
            refine lv_iconst (v := nI 0) hx hb dX5_better_45 (by decide) ?_
            refine n_iadd X dX5_better_46 ?_
            refine lv_istore (lv' := [(4, .int _), (0, .ref _), (1, .int _), (2, .int _), (3, .int _), (5, .int _)]) hx hb dX5_better_47 hl (by decide) rfl (fun ls hl => ?_)
            refine lv_iinc (v := nI (k + 1)) (lv' := [(5, .int _), (4, .int _), (0, .ref _), (1, .int _), (2, .int _), (3, .int _)]) hx hb dX5_better_49 hl (k := 5) rfl (nI_iinc _ 1 rfl) (by decide) rfl (fun ls hl => ?_)
            refine lv_goto (tgt := 6) hx hb dX5_better_52 (by decide) ?_
            exact ih6 _ _ (by omega) (by first | (refine cnt_f hv ?_; simp [hasB, c_21]; done) | (refine cnt_f hv ?_; simp [hasB, c_21, c_38]; done) | (refine cnt_t hv ?_; simp [hasB, c_21, lt_of_nle c_38]; done)) (by omega) _ hL ls (lv_sub hl [2, 3, 4, 5, 1, 0] rfl)
          ·
            refine lv_iconst (v := nI 1) hx hb dX5_better_41 (by decide) ?_
            refine lv_goto (tgt := 46) hx hb dX5_better_42 (by decide) ?_
            refine n_iadd X dX5_better_46 ?_
            refine lv_istore (lv' := [(4, .int _), (0, .ref _), (1, .int _), (2, .int _), (3, .int _), (5, .int _)]) hx hb dX5_better_47 hl (by decide) rfl (fun ls hl => ?_)
            refine lv_iinc (v := nI (k + 1)) (lv' := [(5, .int _), (4, .int _), (0, .ref _), (1, .int _), (2, .int _), (3, .int _)]) hx hb dX5_better_49 hl (k := 5) rfl (nI_iinc _ 1 rfl) (by decide) rfl (fun ls hl => ?_)
            refine lv_goto (tgt := 6) hx hb dX5_better_52 (by decide) ?_
            exact ih6 _ _ (by omega) (by first | (refine cnt_f hv ?_; simp [hasB, c_21]; done) | (refine cnt_f hv ?_; simp [hasB, c_21, c_38]; done) | (refine cnt_t hv ?_; simp [hasB, c_21, lt_of_nle c_38]; done)) (by omega) _ hL ls (lv_sub hl [2, 3, 4, 5, 1, 0] rfl)
  exact L6 5 0 0 (by omega) rfl (by omega) _ hL ls (lv_sub hl [2, 3, 4, 5, 1, 0] rfl)
theorem vb_X5_better : VB yX5_better cX5_better 6 (some .int) 3 := ⟨q1949, qs64, q111, q1950, ⟨by decide, by decide, by decide +kernel⟩⟩

set_option maxRecDepth 100000 in
set_option maxHeartbeats 4000000 in
theorem ct_X5_isBeyond (l : Launch) (g : GT) (o i j : Nat) (S : MS) (sd : Int32) (hi : i < 40) (hj : j < 40) : Ct l g yX5_isBeyond cX5_isBeyond 4 (some .boolean) 4 0 0 [.ref o, .int (nI i), .int (nI j), .int sd] (MW g o S) (fun r H H1 => r = some (.int (bI (eB (S.1 0) (hasB sd) i j))) ∧ H1 = H) := by
  refine Ct.of (by decide) (Nat.le_of_ble_eq_true rfl) ?_
  intro p e s m args below meth c X hP ls hl
  have hx := X.1
  have hb := X.2.1
  have hKV := X.2.2.2.2.2.2.2.1.1
  have hL : ∀ q ∈ ([] : List Loc), gLo g ≤ q.base := fun _ h => by cases h
  have hl : lv_has ls 4 [(0, .ref o), (1, .int (nI i)), (2, .int (nI j)), (3, .int sd)] := hl
  have hW : MW g o S s.heap := hP
  have hO : Off o s.heap s.heap := Off.rfl'
  refine lv_aload_n hx hb dX5_isBeyond_0 rfl (lv_at hl 0 rfl) ?_
  refine lv_iload_n hx hb dX5_isBeyond_1 rfl (lv_at hl 2 rfl) ?_
  refine lv_iload_n hx hb dX5_isBeyond_2 rfl (lv_at hl 1 rfl) ?_
  refine lv_iload_n hx hb dX5_isBeyond_3 rfl (lv_at hl 3 rfl) ?_
  refine Cp.callV (ct_X5_better l g o j i S sd (by omega) (by omega)) X hL hl vb_X5_better q1947 (hW.2.1.recv hKV rfl) rfl rfl (Nat.le_of_ble_eq_true rfl) dX5_isBeyond_4 ⟨Nat.le_of_ble_eq_true rfl, Nat.le_of_ble_eq_true rfl⟩ (by omega) (by omega) hW (fun locs hL => ?_)
  have hb1 := betN_le (mw (S.1 0)) (mv (S.1 0) j) (mv (S.1 0) i) (hasB sd)
  refine n_ifne (tgt := 24) X dX5_isBeyond_7 (by decide) (by omega) (fun c_7 => ?_) (fun c_7 => ?_)
  ·
    refine lv_iconst (v := nI 0) hx hb dX5_isBeyond_24 (by decide) ?_
    exact r_iret X hL rfl rfl dX5_isBeyond_25 (by omega) (by omega) ⟨v_f (by simp [eB, beyB, c_7]), rfl⟩
  ·
    refine lv_aload_n hx hb dX5_isBeyond_10 rfl (lv_at hl 0 rfl) ?_
    refine lv_iload_n hx hb dX5_isBeyond_11 rfl (lv_at hl 1 rfl) ?_
    refine lv_iload_n hx hb dX5_isBeyond_12 rfl (lv_at hl 2 rfl) ?_
    refine lv_iload_n hx hb dX5_isBeyond_13 rfl (lv_at hl 3 rfl) ?_
    refine Cp.callV (ct_X5_better l g o i j S sd (by omega) (by omega)) X hL hl vb_X5_better q1947 (hW.2.1.recv hKV rfl) rfl rfl (Nat.le_of_ble_eq_true rfl) dX5_isBeyond_14 ⟨Nat.le_of_ble_eq_true rfl, Nat.le_of_ble_eq_true rfl⟩ (by omega) (by omega) hW (fun locs hL => ?_)
    have hb2 := betN_le (mw (S.1 0)) (mv (S.1 0) i) (mv (S.1 0) j) (hasB sd)
    refine n_ifle (tgt := 24) X dX5_isBeyond_17 (by decide) (by omega) (fun c_17 => ?_) (fun c_17 => ?_)
    ·
      refine lv_iconst (v := nI 0) hx hb dX5_isBeyond_24 (by decide) ?_
      exact r_iret X hL rfl rfl dX5_isBeyond_25 (by omega) (by omega) ⟨v_f (by simp [eB, beyB, c_17]), rfl⟩
    ·
      refine lv_iconst (v := nI 1) hx hb dX5_isBeyond_20 (by decide) ?_
      refine lv_goto (tgt := 25) hx hb dX5_isBeyond_21 (by decide) ?_
      exact r_iret X hL rfl rfl dX5_isBeyond_25 (by omega) (by omega) ⟨v_t (by simp [eB, beyB, c_7, c_17]), rfl⟩
theorem vb_X5_isBeyond : VB yX5_isBeyond cX5_isBeyond 4 (some .boolean) 3 := ⟨q1945, qs63, q111, q1946, ⟨by decide, by decide, by decide +kernel⟩⟩

set_option maxRecDepth 100000 in
set_option maxHeartbeats 4000000 in
theorem ct_X5_beat (l : Launch) (g : GT) (o i j : Nat) (S : MS) (hi : i < 40) (hj : j < 40) : Ct l g yX5_beat cX5_beat 3 (some .boolean) 5 0 0 [.ref o, .int (nI i), .int (nI j)] (MW g o S) (fun r H H1 => r = some (.int (bI (beatB (S.1 0) i j))) ∧ H1 = H) := by
  refine Ct.of (by decide) (Nat.le_of_ble_eq_true rfl) ?_
  intro p e s m args below meth c X hP ls hl
  have hx := X.1
  have hb := X.2.1
  have hKV := X.2.2.2.2.2.2.2.1.1
  have hL : ∀ q ∈ ([] : List Loc), gLo g ≤ q.base := fun _ h => by cases h
  have hl : lv_has ls 3 [(0, .ref o), (1, .int (nI i)), (2, .int (nI j))] := hl
  have hW : MW g o S s.heap := hP
  have hO : Off o s.heap s.heap := Off.rfl'
  refine lv_aload_n hx hb dX5_beat_0 rfl (lv_at hl 0 rfl) ?_
  refine lv_iload_n hx hb dX5_beat_1 rfl (lv_at hl 1 rfl) ?_
  refine Cp.callV (ct_X5_counts l g o i S (by omega)) X hL hl vb_X5_counts q1939 (hW.2.1.recv hKV rfl) rfl rfl (Nat.le_of_ble_eq_true rfl) dX5_beat_2 ⟨Nat.le_of_ble_eq_true rfl, Nat.le_of_ble_eq_true rfl⟩ (by omega) (by omega) hW (fun locs hL => ?_)
  refine b_ifeq (tgt := 33) X dX5_beat_5 (by decide) (fun c_5 => ?_) (fun c_5 => ?_)
  ·
    refine lv_iconst (v := nI 0) hx hb dX5_beat_33 (by decide) ?_
    exact r_iret X hL rfl rfl dX5_beat_34 (by omega) (by omega) ⟨v_f (by simp [beatB, c_5]), rfl⟩
  ·
    refine lv_aload_n hx hb dX5_beat_8 rfl (lv_at hl 0 rfl) ?_
    refine lv_iload_n hx hb dX5_beat_9 rfl (lv_at hl 2 rfl) ?_
    refine Cp.callV (ct_X5_counts l g o j S (by omega)) X hL hl vb_X5_counts q1939 (hW.2.1.recv hKV rfl) rfl rfl (Nat.le_of_ble_eq_true rfl) dX5_beat_10 ⟨Nat.le_of_ble_eq_true rfl, Nat.le_of_ble_eq_true rfl⟩ (by omega) (by omega) hW (fun locs hL => ?_)
    refine b_ifeq (tgt := 33) X dX5_beat_13 (by decide) (fun c_13 => ?_) (fun c_13 => ?_)
    ·
      refine lv_iconst (v := nI 0) hx hb dX5_beat_33 (by decide) ?_
      exact r_iret X hL rfl rfl dX5_beat_34 (by omega) (by omega) ⟨v_f (by simp [beatB, c_13]), rfl⟩
    ·
      refine lv_aload_n hx hb dX5_beat_16 rfl (lv_at hl 0 rfl) ?_
      refine lv_iload_n hx hb dX5_beat_17 rfl (lv_at hl 1 rfl) ?_
      refine lv_iload_n hx hb dX5_beat_18 rfl (lv_at hl 2 rfl) ?_
      refine lv_aload_n hx hb dX5_beat_19 rfl (lv_at hl 0 rfl) ?_
      refine Cp.callV (ct_X5_mattering l g o S ) X hL hl vb_X5_mattering q1927 (hW.2.1.recv hKV rfl) rfl rfl (Nat.le_of_ble_eq_true rfl) dX5_beat_20 ⟨Nat.le_of_ble_eq_true rfl, Nat.le_of_ble_eq_true rfl⟩ (by omega) (by omega) hW (fun locs hL => ?_)
      refine Cp.callV (ct_X5_isBeyond l g o i j S (matI (mw (S.1 0))) (by omega) (by omega)) X hL hl vb_X5_isBeyond q1943 (hW.2.1.recv hKV rfl) rfl rfl (Nat.le_of_ble_eq_true rfl) dX5_beat_23 ⟨Nat.le_of_ble_eq_true rfl, Nat.le_of_ble_eq_true rfl⟩ (by omega) (by omega) hW (fun locs hL => ?_)
      refine b_ifeq (tgt := 33) X dX5_beat_26 (by decide) (fun c_26 => ?_) (fun c_26 => ?_)
      ·
        refine lv_iconst (v := nI 0) hx hb dX5_beat_33 (by decide) ?_
        exact r_iret X hL rfl rfl dX5_beat_34 (by omega) (by omega) ⟨v_f (by simp [beatB, c_26]), rfl⟩
      ·
        refine lv_iconst (v := nI 1) hx hb dX5_beat_29 (by decide) ?_
        refine lv_goto (tgt := 34) hx hb dX5_beat_30 (by decide) ?_
        exact r_iret X hL rfl rfl dX5_beat_34 (by omega) (by omega) ⟨v_t (by simp [beatB, c_5, c_13, c_26]), rfl⟩
theorem vb_X5_beat : VB yX5_beat cX5_beat 3 (some .boolean) 2 := ⟨q2085, qs78, q111, q2086, ⟨by decide, by decide, by decide +kernel⟩⟩
