/-! the model's walks, fourteenth part: the digest -/
def isNB (v : UInt64) : Bool := !decide (Op.cmpValue (FP.dcmp v v) .l = 0)
def dlB (v : UInt64) : Int64 := if isNB v then 9221120237041090560 else v.toInt64
def mxs (h : Int64) (l : List Int64) : Int64 := l.foldl (fun h v => 31 * h + v) h
theorem mxs_app (h : Int64) (a b : List Int64) : mxs h (a ++ b) = mxs (mxs h a) b := by unfold mxs; rw [List.foldl_append]
def bL (b : Bool) : Int64 := if b then 1 else 0

set_option maxRecDepth 100000 in
set_option maxHeartbeats 4000000 in
theorem ct_J23_isNaN (l : Launch) (g : GT) (v : UInt64)  : Ct l g yJ23_isNaN cJ23_isNaN 2 (some .boolean) 1 0 0 [.double v] (fun _ => True) (fun r H H1 => r = some (.int (bI (isNB v))) ∧ H1 = H) := by
  refine Ct.of (by decide) (Nat.le_of_ble_eq_true rfl) ?_
  intro p e s m args below meth c X hP ls hl
  have hx := X.1
  have hb := X.2.1
  have hKV := X.2.2.2.2.2.2.2.1.1
  have hL : ∀ q ∈ ([] : List Loc), gLo g ≤ q.base := fun _ h => by cases h
  have hl : lv_has ls 2 [(0, .double v)] := hl
  refine lv_dload_n hx hb dJ23_isNaN_0 rfl (lv_at hl 0 rfl) ?_
  refine lv_dload_n hx hb dJ23_isNaN_1 rfl (lv_at hl 0 rfl) ?_
  refine lv_dcmp hx hb dJ23_isNaN_2 ?_
  refine lv_if_eq (tgt := 10) hx hb dJ23_isNaN_3 (by decide) (fun c_3 => ?_) (fun c_3 => ?_)
  ·
    refine lv_iconst (v := nI 0) hx hb dJ23_isNaN_10 (by decide) ?_
    exact r_iret X hL rfl rfl dJ23_isNaN_11 (by omega) (by omega) ⟨v_f (by simp [isNB, c_3]), rfl⟩
  ·
    refine lv_iconst (v := nI 1) hx hb dJ23_isNaN_6 (by decide) ?_
    refine lv_goto (tgt := 11) hx hb dJ23_isNaN_7 (by decide) ?_
    exact r_iret X hL rfl rfl dJ23_isNaN_11 (by omega) (by omega) ⟨v_t (by simp [isNB, c_3]), rfl⟩
theorem sb_J23_isNaN : SB yJ23_isNaN cJ23_isNaN 2 (some .boolean) 1 := ⟨q1299, q131, q1300, ⟨by decide, by decide, by decide +kernel⟩⟩

set_option maxRecDepth 100000 in
set_option maxHeartbeats 4000000 in
theorem ct_J23_doubleToLongBits (l : Launch) (g : GT) (v : UInt64)  : Ct l g yJ23_doubleToLongBits cJ23_doubleToLongBits 2 (some .long) 2 0 0 [.double v] (fun _ => True) (fun r H H1 => r = some (.long (dlB v)) ∧ H1 = H) := by
  refine Ct.of (by decide) (Nat.le_of_ble_eq_true rfl) ?_
  intro p e s m args below meth c X hP ls hl
  have hx := X.1
  have hb := X.2.1
  have hKV := X.2.2.2.2.2.2.2.1.1
  have hL : ∀ q ∈ ([] : List Loc), gLo g ≤ q.base := fun _ h => by cases h
  have hl : lv_has ls 2 [(0, .double v)] := hl
  refine lv_dload_n hx hb dJ23_doubleToLongBits_0 rfl (lv_at hl 0 rfl) ?_
  refine Cp.callS (v := .int (bI (isNB v))) (ct_J23_isNaN l g v ) X hL hl sb_J23_isNaN q1298 rfl rfl (Nat.le_of_ble_eq_true rfl) dJ23_doubleToLongBits_1 ⟨Nat.le_of_ble_eq_true rfl, Nat.le_of_ble_eq_true rfl⟩ (by omega) (by omega) trivial (fun locs hL => ?_)
  refine b_ifne (tgt := 12) X dJ23_doubleToLongBits_4 (by decide) (fun c_4 => ?_) (fun c_4 => ?_)
  ·
    refine lv_ldc2 hx hb X.2.2.2.1 (X.2.2.2.2.1 _ q1304) dJ23_doubleToLongBits_12 ?_
    exact r_lret X hL dJ23_doubleToLongBits_15 (by omega) (by omega) ⟨congrArg (fun z => some (Value.long z)) (by unfold dlB; rw [if_pos c_4]), rfl⟩
  ·
    refine lv_dload_n hx hb dJ23_doubleToLongBits_7 rfl (lv_at hl 0 rfl) ?_
    refine vn_d2l hx hb (X.2.2.1.trans hl.1.symm) X.2.2.2.1 (X.2.2.2.2.1 _ q1301) (X.2.2.2.2.1 _ q1303) (X.2.2.2.2.1 _ q1302) (X.2.2.2.2.1 _ q131) (Nat.le_of_ble_eq_true rfl) (Nat.le_of_ble_eq_true rfl) dJ23_doubleToLongBits_8 ?_
    exact r_lret X hL dJ23_doubleToLongBits_11 (by omega) (by omega) ⟨congrArg (fun z => some (Value.long z)) (by unfold dlB; rw [if_neg (by rw [c_4]; decide)]), rfl⟩
theorem sb_J23_doubleToLongBits : SB yJ23_doubleToLongBits cJ23_doubleToLongBits 2 (some .long) 1 := ⟨q1296, q131, q1297, ⟨by decide, by decide, by decide +kernel⟩⟩

set_option maxRecDepth 100000 in
set_option maxHeartbeats 4000000 in
theorem ct_X5_toldOnv (l : Launch) (g : GT) (o n : Nat) (S : MS) (v : Int32) (hN : S.1 0 160 = nI n) (hn : n ≤ 40) (hv : inB v (nI 1) (nI 15) = true) : Ct l g yX5_toldOn cX5_toldOn 2 (some .int) 7 0 0 [.ref o, .int v] (MW g o S) (fun r H H1 => r = some (.int (nI (cnt (tellB (S.1 0) n (hasB (v &&& matI (mw (S.1 0))))) n))) ∧ MW g o (uS (uA S 5 (setB (S.1 5) n (tellB (S.1 0) n (hasB (v &&& matI (mw (S.1 0))))))) 15 (nI 0)) H1 ∧ Off o H H1) := by
  refine Ct.of (by decide) (Nat.le_of_ble_eq_true rfl) ?_
  intro p e s m args below meth c X hP ls hl
  have hx := X.1
  have hb := X.2.1
  have hKV := X.2.2.2.2.2.2.2.1.1
  have hL : ∀ q ∈ ([] : List Loc), gLo g ≤ q.base := fun _ h => by cases h
  have hl : lv_has ls 2 [(0, .ref o), (1, .int v)] := hl
  have hW : MW g o S s.heap := hP
  have hO : Off o s.heap s.heap := Off.rfl'
  refine lv_aload_n hx hb dX5_toldOn_0 rfl (lv_at hl 0 rfl) ?_
  refine lv_iconst (v := nI 0) hx hb dX5_toldOn_1 (by decide) ?_
  refine mp_38 X rfl hL hW dX5_toldOn_2 (fun H locs hL hW hO1 => ?_)
  have hO := hO.trans hO1
  have hW := MW.cast (S1 := uS S 15 (nI 0)) hW ⟨rfl, rfl, rfl, rfl, rfl, rfl, rfl, rfl, rfl, rfl, rfl, rfl, rfl, rfl, rfl, rfl, rfl⟩
  refine lv_iload_n hx hb dX5_toldOn_5 rfl (lv_at hl 1 rfl) ?_
  refine lv_iconst (v := nI 1) hx hb dX5_toldOn_6 (by decide) ?_
  refine lv_bipush (v := nI 15) hx hb dX5_toldOn_7 (by decide) ?_
  refine Cp.callS (v := .int (bI (inB v (nI 1) (nI 15)))) (ct_X5_in l g v (nI 1) (nI 15) ) X hL hl sb_X5_in q1885 rfl rfl (Nat.le_of_ble_eq_true rfl) dX5_toldOn_9 ⟨Nat.le_of_ble_eq_true rfl, Nat.le_of_ble_eq_true rfl⟩ (by omega) (by omega) trivial (fun locs hL => ?_)
  refine b_ifne (tgt := 23) X dX5_toldOn_12 (by decide) (fun c_12 => ?_) (fun c_12 => ?_)
  ·
    refine lv_aload_n hx hb dX5_toldOn_23 rfl (lv_at hl 0 rfl) ?_
    refine lv_iload_n hx hb dX5_toldOn_24 rfl (lv_at hl 1 rfl) ?_
    refine lv_aload_n hx hb dX5_toldOn_25 rfl (lv_at hl 0 rfl) ?_
    refine Cp.callV (v := .int (matI (mw (S.1 0)))) (ct_X5_mattering l g o (uS S 15 (nI 0)) ) X hL hl vb_X5_mattering q1927 (hW.2.1.recv hKV rfl) rfl rfl (Nat.le_of_ble_eq_true rfl) dX5_toldOn_26 ⟨Nat.le_of_ble_eq_true rfl, Nat.le_of_ble_eq_true rfl⟩ (by omega) (by omega) hW (fun locs hL => ?_)
    refine lv_iand hx hb dX5_toldOn_29 ?_
    refine Ct.callV (ct_X5_tell l g o n (uS S 15 (nI 0)) (v &&& (matI (mw (S.1 0)))) hN hn) X hL hl vb_X5_tell q1935 (hW.2.1.recv hKV rfl) rfl rfl (Nat.le_of_ble_eq_true rfl) dX5_toldOn_30 ⟨Nat.le_of_ble_eq_true rfl, Nat.le_of_ble_eq_true rfl⟩ (by omega) (by omega) hW (fun r H1 locs hL hp => ?_)
    obtain ⟨rfl, hW, hO1⟩ := hp
    have hO := hO.trans hO1
    have hW := MW.cast (S1 := uS (uA S 5 (setB (S.1 5) n (tellB (S.1 0) n (hasB (v &&& (matI (mw (S.1 0)))))))) 15 (nI 0)) hW ⟨rfl, rfl, rfl, rfl, rfl, rfl, rfl, rfl, rfl, rfl, rfl, rfl, rfl, rfl, rfl, rfl, rfl⟩
    refine W.stk (w := (nI (cnt (tellB (S.1 0) n (hasB (v &&& (matI (mw (S.1 0)))))) n))) rfl ?_
    exact r_iret X hL rfl rfl dX5_toldOn_33 (by omega) (by omega) ⟨(by simp [c_12]), (MW.cast hW ⟨rfl, rfl, rfl, rfl, rfl, rfl, rfl, rfl, rfl, rfl, rfl, rfl, rfl, rfl, rfl, rfl, rfl⟩), hO⟩
  ·
    exact absurd (c_12.symm.trans hv) (by decide)

set_option maxRecDepth 100000 in
set_option maxHeartbeats 4000000 in
theorem ct_X5_toldWeaklyv (l : Launch) (g : GT) (o n : Nat) (S : MS) (v : Int32) (hN : S.1 0 160 = nI n) (hn : n ≤ 40) (hv : inB v (nI 1) (nI 4) = true) : Ct l g yX5_toldWeakly cX5_toldWeakly 4 (some .int) 7 0 0 [.ref o, .int v] (MW g o S) (fun r H H1 => r = some (.int (nI (cnt (fun k => cB (S.1 0) k && !anyB (wbB (S.1 0) v k) n) n))) ∧ MW g o (uS S 15 (nI 0)) H1 ∧ Off o H H1) := by
  refine Ct.of (by decide) (Nat.le_of_ble_eq_true rfl) ?_
  intro p e s m args below meth c X hP ls hl
  have hx := X.1
  have hb := X.2.1
  have hKV := X.2.2.2.2.2.2.2.1.1
  have hL : ∀ q ∈ ([] : List Loc), gLo g ≤ q.base := fun _ h => by cases h
  have hl : lv_has ls 4 [(0, .ref o), (1, .int v)] := hl
  have hW : MW g o S s.heap := hP
  have hO : Off o s.heap s.heap := Off.rfl'
  refine lv_aload_n hx hb dX5_toldWeakly_0 rfl (lv_at hl 0 rfl) ?_
  refine lv_iconst (v := nI 0) hx hb dX5_toldWeakly_1 (by decide) ?_
  refine mp_38 X rfl hL hW dX5_toldWeakly_2 (fun H locs hL hW hO1 => ?_)
  have hO := hO.trans hO1
  have hW := MW.cast (S1 := uS S 15 (nI 0)) hW ⟨rfl, rfl, rfl, rfl, rfl, rfl, rfl, rfl, rfl, rfl, rfl, rfl, rfl, rfl, rfl, rfl, rfl⟩
  refine lv_iload_n hx hb dX5_toldWeakly_5 rfl (lv_at hl 1 rfl) ?_
  refine lv_iconst (v := nI 1) hx hb dX5_toldWeakly_6 (by decide) ?_
  refine lv_iconst (v := nI 4) hx hb dX5_toldWeakly_7 (by decide) ?_
  refine Cp.callS (v := .int (bI (inB v (nI 1) (nI 4)))) (ct_X5_in l g v (nI 1) (nI 4) ) X hL hl sb_X5_in q1885 rfl rfl (Nat.le_of_ble_eq_true rfl) dX5_toldWeakly_8 ⟨Nat.le_of_ble_eq_true rfl, Nat.le_of_ble_eq_true rfl⟩ (by omega) (by omega) trivial (fun locs hL => ?_)
  refine b_ifne (tgt := 20) X dX5_toldWeakly_11 (by decide) (fun c_11 => ?_) (fun c_11 => ?_)
  ·
    refine lv_iconst (v := nI 0) hx hb dX5_toldWeakly_20 (by decide) ?_
    refine lv_istore_n (lv' := [(2, .int _), (0, .ref _), (1, .int _)]) hx hb dX5_toldWeakly_21 rfl hl (by decide) rfl (fun ls hl => ?_)
    refine lv_iconst (v := nI 0) hx hb dX5_toldWeakly_22 (by decide) ?_
    refine lv_istore_n (lv' := [(3, .int _), (2, .int _), (0, .ref _), (1, .int _)]) hx hb dX5_toldWeakly_23 rfl hl (by decide) rfl (fun ls hl => ?_)
    have L24 : ∀ (fuel : Nat) (w k : Nat), n - k < fuel → (w = cnt (fun k => cB (S.1 0) k && !anyB (wbB (S.1 0) v k) n) k) → (k ≤ n) → ∀ (locs : List Loc), (∀ q ∈ locs, gLo g ≤ q.base) → ∀ (ls : Array Slot), lv_has ls 4 [(0, .ref o), (1, .int v), (2, .int (nI w)), (3, .int (nI k))] → W p l e (rmL 7 0 0) s m args below meth c H locs 0 0 (MQ below (Qcg (fun r H H1 => r = some (.int (nI (cnt (fun k => cB (S.1 0) k && !anyB (wbB (S.1 0) v k) n) n))) ∧ MW g o (uS S 15 (nI 0)) H1 ∧ Off o H H1)) args s 0 0 (fre g)) (F0 m 24 ls []) := by
      intro fuel
      induction fuel with
      | zero => intro w k hfu; exact absurd hfu (Nat.not_lt_zero _)
      | succ fuel ih24 =>
        intro w k hfu hv9 hk  locs hL ls hl
        refine lv_iload_n hx hb dX5_toldWeakly_24 rfl (lv_at hl 3 rfl) ?_
        refine lv_aload_n hx hb dX5_toldWeakly_25 rfl (lv_at hl 0 rfl) ?_
        refine mg_7 X rfl hW dX5_toldWeakly_26 ?_
        refine lv_sipush (v := nI 160) hx hb dX5_toldWeakly_29 (by decide) ?_
        refine m_ld (v := (nI n)) X hW 0 (by decide) rfl 160 rfl (by decide) (show (S.1 0) 160 = (nI n) from hN) dX5_toldWeakly_32 ?_
        refine n_icmp_ge (tgt := 67) X dX5_toldWeakly_33 (by decide) (by omega) (by omega) (fun c_33 => ?_) (fun c_33 => ?_)
        ·
          refine lv_iload_n hx hb dX5_toldWeakly_67 rfl (lv_at hl 2 rfl) ?_
          exact r_iret X hL rfl rfl dX5_toldWeakly_68 (by omega) (by omega) ⟨(by rw [hv9, show k = n by omega]), hW, hO⟩
        ·
          refine lv_iload_n hx hb dX5_toldWeakly_36 rfl (lv_at hl 2 rfl) ?_
          refine lv_aload_n hx hb dX5_toldWeakly_37 rfl (lv_at hl 0 rfl) ?_
          refine lv_iload_n hx hb dX5_toldWeakly_38 rfl (lv_at hl 3 rfl) ?_
          refine Cp.callV (v := .int (bI (cB (S.1 0) k))) (ct_X5_counts l g o k (uS S 15 (nI 0)) (by omega)) X hL hl vb_X5_counts q1939 (hW.2.1.recv hKV rfl) rfl rfl (Nat.le_of_ble_eq_true rfl) dX5_toldWeakly_39 ⟨Nat.le_of_ble_eq_true rfl, Nat.le_of_ble_eq_true rfl⟩ (by omega) (by omega) hW (fun locs hL => ?_)
          refine b_ifeq (tgt := 58) X dX5_toldWeakly_42 (by decide) (fun c_42 => ?_) (fun c_42 => ?_)
          ·
            refine lv_iconst (v := nI 0) hx hb dX5_toldWeakly_58 (by decide) ?_
            refine n_iadd X dX5_toldWeakly_59 ?_
            refine lv_istore_n (lv' := [(2, .int _), (0, .ref _), (1, .int _), (3, .int _)]) hx hb dX5_toldWeakly_60 rfl hl (by decide) rfl (fun ls hl => ?_)
            refine lv_iinc (v := nI (k + 1)) (lv' := [(3, .int _), (2, .int _), (0, .ref _), (1, .int _)]) hx hb dX5_toldWeakly_61 hl (k := 3) rfl (nI_iinc _ 1 rfl) (by decide) rfl (fun ls hl => ?_)
            refine lv_goto (tgt := 24) hx hb dX5_toldWeakly_64 (by decide) ?_
            exact ih24 _ _ (by omega) (by first | (refine cnt_f hv9 ?_; simp [c_42]; done) | (refine cnt_f hv9 ?_; simp [c_51]; done) | (refine cnt_t hv9 ?_; simp [c_42, c_51]; done)) (by omega) _ hL ls (lv_sub hl [2, 3, 1, 0] rfl)
          ·
            refine lv_aload_n hx hb dX5_toldWeakly_45 rfl (lv_at hl 0 rfl) ?_
            refine lv_iload_n hx hb dX5_toldWeakly_46 rfl (lv_at hl 3 rfl) ?_
            refine lv_iload_n hx hb dX5_toldWeakly_47 rfl (lv_at hl 1 rfl) ?_
            refine Cp.callV (v := .int (bI (anyB (wbB (S.1 0) v k) n))) (ct_X5_isWeaklyBeaten l g o n k (uS S 15 (nI 0)) v hN hn (by omega)) X hL hl vb_X5_isWeaklyBeaten q2164 (hW.2.1.recv hKV rfl) rfl rfl (Nat.le_of_ble_eq_true rfl) dX5_toldWeakly_48 ⟨Nat.le_of_ble_eq_true rfl, Nat.le_of_ble_eq_true rfl⟩ (by omega) (by omega) hW (fun locs hL => ?_)
            refine b_ifne (tgt := 58) X dX5_toldWeakly_51 (by decide) (fun c_51 => ?_) (fun c_51 => ?_)
            ·
              refine lv_iconst (v := nI 0) hx hb dX5_toldWeakly_58 (by decide) ?_
              refine n_iadd X dX5_toldWeakly_59 ?_
              refine lv_istore_n (lv' := [(2, .int _), (0, .ref _), (1, .int _), (3, .int _)]) hx hb dX5_toldWeakly_60 rfl hl (by decide) rfl (fun ls hl => ?_)
              refine lv_iinc (v := nI (k + 1)) (lv' := [(3, .int _), (2, .int _), (0, .ref _), (1, .int _)]) hx hb dX5_toldWeakly_61 hl (k := 3) rfl (nI_iinc _ 1 rfl) (by decide) rfl (fun ls hl => ?_)
              refine lv_goto (tgt := 24) hx hb dX5_toldWeakly_64 (by decide) ?_
              exact ih24 _ _ (by omega) (by first | (refine cnt_f hv9 ?_; simp [c_42]; done) | (refine cnt_f hv9 ?_; simp [c_51]; done) | (refine cnt_t hv9 ?_; simp [c_42, c_51]; done)) (by omega) _ hL ls (lv_sub hl [2, 3, 1, 0] rfl)
            ·
              refine lv_iconst (v := nI 1) hx hb dX5_toldWeakly_54 (by decide) ?_
              refine lv_goto (tgt := 59) hx hb dX5_toldWeakly_55 (by decide) ?_
              refine n_iadd X dX5_toldWeakly_59 ?_
              refine lv_istore_n (lv' := [(2, .int _), (0, .ref _), (1, .int _), (3, .int _)]) hx hb dX5_toldWeakly_60 rfl hl (by decide) rfl (fun ls hl => ?_)
              refine lv_iinc (v := nI (k + 1)) (lv' := [(3, .int _), (2, .int _), (0, .ref _), (1, .int _)]) hx hb dX5_toldWeakly_61 hl (k := 3) rfl (nI_iinc _ 1 rfl) (by decide) rfl (fun ls hl => ?_)
              refine lv_goto (tgt := 24) hx hb dX5_toldWeakly_64 (by decide) ?_
              exact ih24 _ _ (by omega) (by first | (refine cnt_f hv9 ?_; simp [c_42]; done) | (refine cnt_f hv9 ?_; simp [c_51]; done) | (refine cnt_t hv9 ?_; simp [c_42, c_51]; done)) (by omega) _ hL ls (lv_sub hl [2, 3, 1, 0] rfl)
    exact L24 (n + 1) 0 0 (by omega) rfl (by omega) _ hL ls (lv_sub hl [2, 3, 1, 0] rfl)
  ·
    exact absurd (c_11.symm.trans hv) (by decide)

set_option maxRecDepth 100000 in
set_option maxHeartbeats 4000000 in
theorem ct_X5_toldSharev (l : Launch) (g : GT) (o n : Nat) (S : MS) (hN : S.1 0 160 = nI n) (hn : n ≤ 40) : Ct l g yX5_toldShare cX5_toldShare 2 (some .double) 7 0 0 [.ref o] (MW g o S) (fun r H H1 => ∃ (F : Nat → Int32), r = some (.double (shF (cnt (tellB (S.1 0) n (hasB (matI (mw (S.1 0))))) n) (cnt (cB (S.1 0)) n))) ∧ MW g o (uS (uA S 5 F) 15 (nI 0)) H1 ∧ Off o H H1) := by
  refine Ct.of (by decide) (Nat.le_of_ble_eq_true rfl) ?_
  intro p e s m args below meth c X hP ls hl
  have hx := X.1
  have hb := X.2.1
  have hKV := X.2.2.2.2.2.2.2.1.1
  have hL : ∀ q ∈ ([] : List Loc), gLo g ≤ q.base := fun _ h => by cases h
  have hl : lv_has ls 2 [(0, .ref o)] := hl
  have hW : MW g o S s.heap := hP
  have hO : Off o s.heap s.heap := Off.rfl'
  refine lv_aload_n hx hb dX5_toldShare_0 rfl (lv_at hl 0 rfl) ?_
  refine lv_iconst (v := nI 0) hx hb dX5_toldShare_1 (by decide) ?_
  refine mp_38 X rfl hL hW dX5_toldShare_2 (fun H locs hL hW hO1 => ?_)
  have hO := hO.trans hO1
  have hW := MW.cast (S1 := uS S 15 (nI 0)) hW ⟨rfl, rfl, rfl, rfl, rfl, rfl, rfl, rfl, rfl, rfl, rfl, rfl, rfl, rfl, rfl, rfl, rfl⟩
  refine lv_aload_n hx hb dX5_toldShare_5 rfl (lv_at hl 0 rfl) ?_
  refine Cp.callV (v := .int (nI (cnt (cB (S.1 0)) n))) (ct_X5_countingOnes l g o n (uS S 15 (nI 0)) hN hn) X hL hl vb_X5_countingOnes q1963 (hW.2.1.recv hKV rfl) rfl rfl (Nat.le_of_ble_eq_true rfl) dX5_toldShare_6 ⟨Nat.le_of_ble_eq_true rfl, Nat.le_of_ble_eq_true rfl⟩ (by omega) (by omega) hW (fun locs hL => ?_)
  refine lv_istore_n (lv' := [(1, .int _), (0, .ref _)]) hx hb dX5_toldShare_9 rfl hl (by decide) rfl (fun ls hl => ?_)
  refine lv_iload_n hx hb dX5_toldShare_10 rfl (lv_at hl 0 rfl) ?_
  have hc1 := cnt_le (cB (S.1 0)) n
  refine n_ifne (tgt := 18) X dX5_toldShare_11 (by decide) (by omega) (fun c_11 => ?_) (fun c_11 => ?_)
  ·
    refine lv_aload_n hx hb dX5_toldShare_18 rfl (lv_at hl 1 rfl) ?_
    refine lv_aload_n hx hb dX5_toldShare_19 rfl (lv_at hl 1 rfl) ?_
    refine Cp.callV (v := .int (matI (mw (S.1 0)))) (ct_X5_mattering l g o (uS S 15 (nI 0)) ) X hL hl vb_X5_mattering q1927 (hW.2.1.recv hKV rfl) rfl rfl (Nat.le_of_ble_eq_true rfl) dX5_toldShare_20 ⟨Nat.le_of_ble_eq_true rfl, Nat.le_of_ble_eq_true rfl⟩ (by omega) (by omega) hW (fun locs hL => ?_)
    refine Ct.callV (ct_X5_tell l g o n (uS S 15 (nI 0)) (matI (mw (S.1 0))) hN hn) X hL hl vb_X5_tell q1935 (hW.2.1.recv hKV rfl) rfl rfl (Nat.le_of_ble_eq_true rfl) dX5_toldShare_23 ⟨Nat.le_of_ble_eq_true rfl, Nat.le_of_ble_eq_true rfl⟩ (by omega) (by omega) hW (fun r H1 locs hL hp => ?_)
    obtain ⟨rfl, hW, hO1⟩ := hp
    have hO := hO.trans hO1
    have hW := MW.cast (S1 := uS (uA S 5 (setB (S.1 5) n (tellB (S.1 0) n (hasB (matI (mw (S.1 0))))))) 15 (nI 0)) hW ⟨rfl, rfl, rfl, rfl, rfl, rfl, rfl, rfl, rfl, rfl, rfl, rfl, rfl, rfl, rfl, rfl, rfl⟩
    refine W.stk (w := (nI (cnt (tellB (S.1 0) n (hasB (matI (mw (S.1 0))))) n))) rfl ?_
    refine lv_i2d hx hb dX5_toldShare_26 ?_
    refine lv_iload_n hx hb dX5_toldShare_27 rfl (lv_at hl 0 rfl) ?_
    refine lv_i2d hx hb dX5_toldShare_28 ?_
    have hc2 := cnt_le (tellB (S.1 0) n (hasB (matI (mw (S.1 0))))) n
    refine lv_ddiv hx hb dX5_toldShare_29 (ddiv_ok (cnt (tellB (S.1 0) n (hasB (matI (mw (S.1 0))))) n) (by omega) (cnt (cB (S.1 0)) n) (by omega) (by omega)) ?_
    exact r_dret X hL dX5_toldShare_30 (by omega) (by omega) ⟨setB (S.1 5) n (tellB (S.1 0) n (hasB (matI (mw (S.1 0))))), (by rw [shF, if_neg c_11]), (MW.cast hW ⟨rfl, rfl, rfl, rfl, rfl, rfl, rfl, rfl, rfl, rfl, rfl, rfl, rfl, rfl, rfl, rfl, rfl⟩), hO⟩
  ·
    refine lv_dconst0 hx hb dX5_toldShare_14 ?_
    refine lv_goto (tgt := 30) hx hb dX5_toldShare_15 (by decide) ?_
    exact r_dret X hL dX5_toldShare_30 (by omega) (by omega) ⟨S.1 5, (by rw [shF, if_pos c_11]), (MW.cast hW ⟨rfl, rfl, rfl, rfl, rfl, rfl, rfl, rfl, rfl, rfl, rfl, rfl, rfl, rfl, rfl, rfl, rfl⟩), hO⟩

/-- what is mixed of an offer, whose layer is Y i -/
def offL (r : Nat → Int32) (n : Nat) (Y : Nat → Nat) (i : Nat) : List Int64 := [(r (4 * i + 0)).toInt64, (r (4 * i + 1)).toInt64, (r (4 * i + 2)).toInt64, (r (4 * i + 3)).toInt64, bL (cB (r) i), (nI (cnt (fun j => beatB (r) j i) n)).toInt64, (nI (cnt (beatB (r) i) n)).toInt64, bL (isTB (r) n i), bL (isTB (r) n i), (nI (Y i)).toInt64, (nI (Y i)).toInt64, (scoI (r) i).toInt64]

set_option maxRecDepth 100000 in
set_option maxHeartbeats 4000000 in
theorem ct_X5_mixOffer (l : Launch) (g : GT) (o n i : Nat) (S : MS) (Y : Nat → Nat) (hN : S.1 0 160 = nI n) (hn : n ≤ 40) (hi : i < n) (hY : S.1 7 i = nI (Y i)) : Ct l g yX5_mixOffer cX5_mixOffer 3 none 7 0 0 [.ref o, .int (nI i)] (MW g o S) (fun r H H1 => ∃ (hv : Int64), (hv = mxs S.2.2 (offL (S.1 0) n Y i)) ∧ r = none ∧ MW g o (uH S hv) H1 ∧ Off o H H1) := by
  refine Ct.of (by decide) (Nat.le_of_ble_eq_true rfl) ?_
  intro p e s m args below meth c X hP ls hl
  have hx := X.1
  have hb := X.2.1
  have hKV := X.2.2.2.2.2.2.2.1.1
  have hL : ∀ q ∈ ([] : List Loc), gLo g ≤ q.base := fun _ h => by cases h
  have hl : lv_has ls 3 [(0, .ref o), (1, .int (nI i))] := hl
  have hW : MW g o S s.heap := hP
  have hO : Off o s.heap s.heap := Off.rfl'
  refine lv_iconst (v := nI 0) hx hb dX5_mixOffer_0 (by decide) ?_
  refine lv_istore_n (lv' := [(2, .int _), (0, .ref _), (1, .int _)]) hx hb dX5_mixOffer_1 rfl hl (by decide) rfl (fun ls hl => ?_)
  refine lv_iload_n hx hb dX5_mixOffer_2 rfl (lv_at hl 0 rfl) ?_
  refine lv_iconst (v := nI 4) hx hb dX5_mixOffer_3 (by decide) ?_
  refine n_icmp_ge (tgt := 24) X dX5_mixOffer_4 (by decide) (by omega) (by omega) (fun c_4 => ?_) (fun c_4 => ?_)
  ·
    exact absurd c_4 (by decide)
  ·
    refine lv_aload_n hx hb dX5_mixOffer_7 rfl (lv_at hl 1 rfl) ?_
    refine lv_aload_n hx hb dX5_mixOffer_8 rfl (lv_at hl 1 rfl) ?_
    refine lv_iload_n hx hb dX5_mixOffer_9 rfl (lv_at hl 2 rfl) ?_
    refine lv_iload_n hx hb dX5_mixOffer_10 rfl (lv_at hl 0 rfl) ?_
    refine Cp.callV (v := .int (S.1 0 (4 * i + 0))) (ct_X5_value l g o i 0 S (by omega) (by omega)) X hL hl vb_X5_value q1919 (hW.2.1.recv hKV rfl) rfl rfl (Nat.le_of_ble_eq_true rfl) dX5_mixOffer_11 ⟨Nat.le_of_ble_eq_true rfl, Nat.le_of_ble_eq_true rfl⟩ (by omega) (by omega) hW (fun locs hL => ?_)
    refine lv_i2l hx hb dX5_mixOffer_14 rfl ?_
    refine Ct.callV (ct_X5_mix l g o S ((S.1 0 (4 * i + 0)).toInt64) ) X hL hl vb_X5_mix q2282 (hW.2.1.recv hKV rfl) rfl rfl (Nat.le_of_ble_eq_true rfl) dX5_mixOffer_15 ⟨Nat.le_of_ble_eq_true rfl, Nat.le_of_ble_eq_true rfl⟩ (by omega) (by omega) hW (fun r H1 locs hL hp => ?_)
    obtain ⟨rfl, hW, hO1⟩ := hp
    have hO := hO.trans hO1
    have hW := MW.cast (S1 := uH S (31 * S.2.2 + ((S.1 0 (4 * i + 0)).toInt64))) hW ⟨rfl, rfl, rfl, rfl, rfl, rfl, rfl, rfl, rfl, rfl, rfl, rfl, rfl, rfl, rfl, rfl, rfl⟩
    refine lv_iinc (v := nI (1)) (lv' := [(2, .int _), (0, .ref _), (1, .int _)]) hx hb dX5_mixOffer_18 hl (k := 0) rfl (nI_iinc _ 1 rfl) (by decide) rfl (fun ls hl => ?_)
    refine lv_goto (tgt := 2) hx hb dX5_mixOffer_21 (by decide) ?_
    refine lv_iload_n hx hb dX5_mixOffer_2 rfl (lv_at hl 0 rfl) ?_
    refine lv_iconst (v := nI 4) hx hb dX5_mixOffer_3 (by decide) ?_
    refine n_icmp_ge (tgt := 24) X dX5_mixOffer_4 (by decide) (by omega) (by omega) (fun c_4 => ?_) (fun c_4 => ?_)
    ·
      exact absurd c_4 (by decide)
    ·
      refine lv_aload_n hx hb dX5_mixOffer_7 rfl (lv_at hl 1 rfl) ?_
      refine lv_aload_n hx hb dX5_mixOffer_8 rfl (lv_at hl 1 rfl) ?_
      refine lv_iload_n hx hb dX5_mixOffer_9 rfl (lv_at hl 2 rfl) ?_
      refine lv_iload_n hx hb dX5_mixOffer_10 rfl (lv_at hl 0 rfl) ?_
      refine Cp.callV (v := .int (S.1 0 (4 * i + 1))) (ct_X5_value l g o i 1 (uH S (31 * S.2.2 + ((S.1 0 (4 * i + 0)).toInt64))) (by omega) (by omega)) X hL hl vb_X5_value q1919 (hW.2.1.recv hKV rfl) rfl rfl (Nat.le_of_ble_eq_true rfl) dX5_mixOffer_11 ⟨Nat.le_of_ble_eq_true rfl, Nat.le_of_ble_eq_true rfl⟩ (by omega) (by omega) hW (fun locs hL => ?_)
      refine lv_i2l hx hb dX5_mixOffer_14 rfl ?_
      refine Ct.callV (ct_X5_mix l g o (uH S (31 * S.2.2 + ((S.1 0 (4 * i + 0)).toInt64))) ((S.1 0 (4 * i + 1)).toInt64) ) X hL hl vb_X5_mix q2282 (hW.2.1.recv hKV rfl) rfl rfl (Nat.le_of_ble_eq_true rfl) dX5_mixOffer_15 ⟨Nat.le_of_ble_eq_true rfl, Nat.le_of_ble_eq_true rfl⟩ (by omega) (by omega) hW (fun r H1 locs hL hp => ?_)
      obtain ⟨rfl, hW, hO1⟩ := hp
      have hO := hO.trans hO1
      have hW := MW.cast (S1 := uH S (31 * (31 * S.2.2 + ((S.1 0 (4 * i + 0)).toInt64)) + ((S.1 0 (4 * i + 1)).toInt64))) hW ⟨rfl, rfl, rfl, rfl, rfl, rfl, rfl, rfl, rfl, rfl, rfl, rfl, rfl, rfl, rfl, rfl, rfl⟩
      refine lv_iinc (v := nI (2)) (lv' := [(2, .int _), (0, .ref _), (1, .int _)]) hx hb dX5_mixOffer_18 hl (k := 0) rfl (nI_iinc _ 1 rfl) (by decide) rfl (fun ls hl => ?_)
      refine lv_goto (tgt := 2) hx hb dX5_mixOffer_21 (by decide) ?_
      refine lv_iload_n hx hb dX5_mixOffer_2 rfl (lv_at hl 0 rfl) ?_
      refine lv_iconst (v := nI 4) hx hb dX5_mixOffer_3 (by decide) ?_
      refine n_icmp_ge (tgt := 24) X dX5_mixOffer_4 (by decide) (by omega) (by omega) (fun c_4 => ?_) (fun c_4 => ?_)
      ·
        exact absurd c_4 (by decide)
      ·
        refine lv_aload_n hx hb dX5_mixOffer_7 rfl (lv_at hl 1 rfl) ?_
        refine lv_aload_n hx hb dX5_mixOffer_8 rfl (lv_at hl 1 rfl) ?_
        refine lv_iload_n hx hb dX5_mixOffer_9 rfl (lv_at hl 2 rfl) ?_
        refine lv_iload_n hx hb dX5_mixOffer_10 rfl (lv_at hl 0 rfl) ?_
        refine Cp.callV (v := .int (S.1 0 (4 * i + 2))) (ct_X5_value l g o i 2 (uH S (31 * (31 * S.2.2 + ((S.1 0 (4 * i + 0)).toInt64)) + ((S.1 0 (4 * i + 1)).toInt64))) (by omega) (by omega)) X hL hl vb_X5_value q1919 (hW.2.1.recv hKV rfl) rfl rfl (Nat.le_of_ble_eq_true rfl) dX5_mixOffer_11 ⟨Nat.le_of_ble_eq_true rfl, Nat.le_of_ble_eq_true rfl⟩ (by omega) (by omega) hW (fun locs hL => ?_)
        refine lv_i2l hx hb dX5_mixOffer_14 rfl ?_
        refine Ct.callV (ct_X5_mix l g o (uH S (31 * (31 * S.2.2 + ((S.1 0 (4 * i + 0)).toInt64)) + ((S.1 0 (4 * i + 1)).toInt64))) ((S.1 0 (4 * i + 2)).toInt64) ) X hL hl vb_X5_mix q2282 (hW.2.1.recv hKV rfl) rfl rfl (Nat.le_of_ble_eq_true rfl) dX5_mixOffer_15 ⟨Nat.le_of_ble_eq_true rfl, Nat.le_of_ble_eq_true rfl⟩ (by omega) (by omega) hW (fun r H1 locs hL hp => ?_)
        obtain ⟨rfl, hW, hO1⟩ := hp
        have hO := hO.trans hO1
        have hW := MW.cast (S1 := uH S (31 * (31 * (31 * S.2.2 + ((S.1 0 (4 * i + 0)).toInt64)) + ((S.1 0 (4 * i + 1)).toInt64)) + ((S.1 0 (4 * i + 2)).toInt64))) hW ⟨rfl, rfl, rfl, rfl, rfl, rfl, rfl, rfl, rfl, rfl, rfl, rfl, rfl, rfl, rfl, rfl, rfl⟩
        refine lv_iinc (v := nI (3)) (lv' := [(2, .int _), (0, .ref _), (1, .int _)]) hx hb dX5_mixOffer_18 hl (k := 0) rfl (nI_iinc _ 1 rfl) (by decide) rfl (fun ls hl => ?_)
        refine lv_goto (tgt := 2) hx hb dX5_mixOffer_21 (by decide) ?_
        refine lv_iload_n hx hb dX5_mixOffer_2 rfl (lv_at hl 0 rfl) ?_
        refine lv_iconst (v := nI 4) hx hb dX5_mixOffer_3 (by decide) ?_
        refine n_icmp_ge (tgt := 24) X dX5_mixOffer_4 (by decide) (by omega) (by omega) (fun c_4 => ?_) (fun c_4 => ?_)
        ·
          exact absurd c_4 (by decide)
        ·
          refine lv_aload_n hx hb dX5_mixOffer_7 rfl (lv_at hl 1 rfl) ?_
          refine lv_aload_n hx hb dX5_mixOffer_8 rfl (lv_at hl 1 rfl) ?_
          refine lv_iload_n hx hb dX5_mixOffer_9 rfl (lv_at hl 2 rfl) ?_
          refine lv_iload_n hx hb dX5_mixOffer_10 rfl (lv_at hl 0 rfl) ?_
          refine Cp.callV (v := .int (S.1 0 (4 * i + 3))) (ct_X5_value l g o i 3 (uH S (31 * (31 * (31 * S.2.2 + ((S.1 0 (4 * i + 0)).toInt64)) + ((S.1 0 (4 * i + 1)).toInt64)) + ((S.1 0 (4 * i + 2)).toInt64))) (by omega) (by omega)) X hL hl vb_X5_value q1919 (hW.2.1.recv hKV rfl) rfl rfl (Nat.le_of_ble_eq_true rfl) dX5_mixOffer_11 ⟨Nat.le_of_ble_eq_true rfl, Nat.le_of_ble_eq_true rfl⟩ (by omega) (by omega) hW (fun locs hL => ?_)
          refine lv_i2l hx hb dX5_mixOffer_14 rfl ?_
          refine Ct.callV (ct_X5_mix l g o (uH S (31 * (31 * (31 * S.2.2 + ((S.1 0 (4 * i + 0)).toInt64)) + ((S.1 0 (4 * i + 1)).toInt64)) + ((S.1 0 (4 * i + 2)).toInt64))) ((S.1 0 (4 * i + 3)).toInt64) ) X hL hl vb_X5_mix q2282 (hW.2.1.recv hKV rfl) rfl rfl (Nat.le_of_ble_eq_true rfl) dX5_mixOffer_15 ⟨Nat.le_of_ble_eq_true rfl, Nat.le_of_ble_eq_true rfl⟩ (by omega) (by omega) hW (fun r H1 locs hL hp => ?_)
          obtain ⟨rfl, hW, hO1⟩ := hp
          have hO := hO.trans hO1
          have hW := MW.cast (S1 := uH S (31 * (31 * (31 * (31 * S.2.2 + ((S.1 0 (4 * i + 0)).toInt64)) + ((S.1 0 (4 * i + 1)).toInt64)) + ((S.1 0 (4 * i + 2)).toInt64)) + ((S.1 0 (4 * i + 3)).toInt64))) hW ⟨rfl, rfl, rfl, rfl, rfl, rfl, rfl, rfl, rfl, rfl, rfl, rfl, rfl, rfl, rfl, rfl, rfl⟩
          refine lv_iinc (v := nI (4)) (lv' := [(2, .int _), (0, .ref _), (1, .int _)]) hx hb dX5_mixOffer_18 hl (k := 0) rfl (nI_iinc _ 1 rfl) (by decide) rfl (fun ls hl => ?_)
          refine lv_goto (tgt := 2) hx hb dX5_mixOffer_21 (by decide) ?_
          refine lv_iload_n hx hb dX5_mixOffer_2 rfl (lv_at hl 0 rfl) ?_
          refine lv_iconst (v := nI 4) hx hb dX5_mixOffer_3 (by decide) ?_
          refine n_icmp_ge (tgt := 24) X dX5_mixOffer_4 (by decide) (by omega) (by omega) (fun c_4 => ?_) (fun c_4 => ?_)
          ·
            refine lv_aload_n hx hb dX5_mixOffer_24 rfl (lv_at hl 1 rfl) ?_
            refine lv_aload_n hx hb dX5_mixOffer_25 rfl (lv_at hl 1 rfl) ?_
            refine lv_iload_n hx hb dX5_mixOffer_26 rfl (lv_at hl 2 rfl) ?_
            refine Cp.callV (v := .int (bI (cB (S.1 0) i))) (ct_X5_counts l g o i (uH S (31 * (31 * (31 * (31 * S.2.2 + ((S.1 0 (4 * i + 0)).toInt64)) + ((S.1 0 (4 * i + 1)).toInt64)) + ((S.1 0 (4 * i + 2)).toInt64)) + ((S.1 0 (4 * i + 3)).toInt64))) (by omega)) X hL hl vb_X5_counts q1939 (hW.2.1.recv hKV rfl) rfl rfl (Nat.le_of_ble_eq_true rfl) dX5_mixOffer_27 ⟨Nat.le_of_ble_eq_true rfl, Nat.le_of_ble_eq_true rfl⟩ (by omega) (by omega) hW (fun locs hL => ?_)
            refine b_ifeq (tgt := 37) X dX5_mixOffer_30 (by decide) (fun c_30 => ?_) (fun c_30 => ?_)
            ·
              refine lv_lconst (v := 0) hx hb dX5_mixOffer_37 (by decide) ?_
              refine Ct.callV (ct_X5_mix l g o (uH S (31 * (31 * (31 * (31 * S.2.2 + ((S.1 0 (4 * i + 0)).toInt64)) + ((S.1 0 (4 * i + 1)).toInt64)) + ((S.1 0 (4 * i + 2)).toInt64)) + ((S.1 0 (4 * i + 3)).toInt64))) 0 ) X hL hl vb_X5_mix q2282 (hW.2.1.recv hKV rfl) rfl rfl (Nat.le_of_ble_eq_true rfl) dX5_mixOffer_38 ⟨Nat.le_of_ble_eq_true rfl, Nat.le_of_ble_eq_true rfl⟩ (by omega) (by omega) hW (fun r H1 locs hL hp => ?_)
              obtain ⟨rfl, hW, hO1⟩ := hp
              have hO := hO.trans hO1
              have hW := MW.cast (S1 := uH S (31 * (31 * (31 * (31 * (31 * S.2.2 + ((S.1 0 (4 * i + 0)).toInt64)) + ((S.1 0 (4 * i + 1)).toInt64)) + ((S.1 0 (4 * i + 2)).toInt64)) + ((S.1 0 (4 * i + 3)).toInt64)) + 0)) hW ⟨rfl, rfl, rfl, rfl, rfl, rfl, rfl, rfl, rfl, rfl, rfl, rfl, rfl, rfl, rfl, rfl, rfl⟩
              refine lv_aload_n hx hb dX5_mixOffer_41 rfl (lv_at hl 1 rfl) ?_
              refine lv_aload_n hx hb dX5_mixOffer_42 rfl (lv_at hl 1 rfl) ?_
              refine lv_iload_n hx hb dX5_mixOffer_43 rfl (lv_at hl 2 rfl) ?_
              refine Cp.callV (v := .int (nI (cnt (fun j => beatB (S.1 0) j i) n))) (ct_X5_beaters l g o n i (uH S (31 * (31 * (31 * (31 * (31 * S.2.2 + ((S.1 0 (4 * i + 0)).toInt64)) + ((S.1 0 (4 * i + 1)).toInt64)) + ((S.1 0 (4 * i + 2)).toInt64)) + ((S.1 0 (4 * i + 3)).toInt64)) + 0)) hN hn (by omega)) X hL hl vb_X5_beaters q2095 (hW.2.1.recv hKV rfl) rfl rfl (Nat.le_of_ble_eq_true rfl) dX5_mixOffer_44 ⟨Nat.le_of_ble_eq_true rfl, Nat.le_of_ble_eq_true rfl⟩ (by omega) (by omega) hW (fun locs hL => ?_)
              refine lv_i2l hx hb dX5_mixOffer_47 rfl ?_
              refine Ct.callV (ct_X5_mix l g o (uH S (31 * (31 * (31 * (31 * (31 * S.2.2 + ((S.1 0 (4 * i + 0)).toInt64)) + ((S.1 0 (4 * i + 1)).toInt64)) + ((S.1 0 (4 * i + 2)).toInt64)) + ((S.1 0 (4 * i + 3)).toInt64)) + 0)) ((nI (cnt (fun j => beatB (S.1 0) j i) n)).toInt64) ) X hL hl vb_X5_mix q2282 (hW.2.1.recv hKV rfl) rfl rfl (Nat.le_of_ble_eq_true rfl) dX5_mixOffer_48 ⟨Nat.le_of_ble_eq_true rfl, Nat.le_of_ble_eq_true rfl⟩ (by omega) (by omega) hW (fun r H1 locs hL hp => ?_)
              obtain ⟨rfl, hW, hO1⟩ := hp
              have hO := hO.trans hO1
              have hW := MW.cast (S1 := uH S (31 * (31 * (31 * (31 * (31 * (31 * S.2.2 + ((S.1 0 (4 * i + 0)).toInt64)) + ((S.1 0 (4 * i + 1)).toInt64)) + ((S.1 0 (4 * i + 2)).toInt64)) + ((S.1 0 (4 * i + 3)).toInt64)) + 0) + ((nI (cnt (fun j => beatB (S.1 0) j i) n)).toInt64))) hW ⟨rfl, rfl, rfl, rfl, rfl, rfl, rfl, rfl, rfl, rfl, rfl, rfl, rfl, rfl, rfl, rfl, rfl⟩
              refine lv_aload_n hx hb dX5_mixOffer_51 rfl (lv_at hl 1 rfl) ?_
              refine lv_aload_n hx hb dX5_mixOffer_52 rfl (lv_at hl 1 rfl) ?_
              refine lv_iload_n hx hb dX5_mixOffer_53 rfl (lv_at hl 2 rfl) ?_
              refine Cp.callV (v := .int (nI (cnt (beatB (S.1 0) i) n))) (ct_X5_beaten l g o n i (uH S (31 * (31 * (31 * (31 * (31 * (31 * S.2.2 + ((S.1 0 (4 * i + 0)).toInt64)) + ((S.1 0 (4 * i + 1)).toInt64)) + ((S.1 0 (4 * i + 2)).toInt64)) + ((S.1 0 (4 * i + 3)).toInt64)) + 0) + ((nI (cnt (fun j => beatB (S.1 0) j i) n)).toInt64))) hN hn (by omega)) X hL hl vb_X5_beaten q2103 (hW.2.1.recv hKV rfl) rfl rfl (Nat.le_of_ble_eq_true rfl) dX5_mixOffer_54 ⟨Nat.le_of_ble_eq_true rfl, Nat.le_of_ble_eq_true rfl⟩ (by omega) (by omega) hW (fun locs hL => ?_)
              refine lv_i2l hx hb dX5_mixOffer_57 rfl ?_
              refine Ct.callV (ct_X5_mix l g o (uH S (31 * (31 * (31 * (31 * (31 * (31 * S.2.2 + ((S.1 0 (4 * i + 0)).toInt64)) + ((S.1 0 (4 * i + 1)).toInt64)) + ((S.1 0 (4 * i + 2)).toInt64)) + ((S.1 0 (4 * i + 3)).toInt64)) + 0) + ((nI (cnt (fun j => beatB (S.1 0) j i) n)).toInt64))) ((nI (cnt (beatB (S.1 0) i) n)).toInt64) ) X hL hl vb_X5_mix q2282 (hW.2.1.recv hKV rfl) rfl rfl (Nat.le_of_ble_eq_true rfl) dX5_mixOffer_58 ⟨Nat.le_of_ble_eq_true rfl, Nat.le_of_ble_eq_true rfl⟩ (by omega) (by omega) hW (fun r H1 locs hL hp => ?_)
              obtain ⟨rfl, hW, hO1⟩ := hp
              have hO := hO.trans hO1
              have hW := MW.cast (S1 := uH S (31 * (31 * (31 * (31 * (31 * (31 * (31 * S.2.2 + ((S.1 0 (4 * i + 0)).toInt64)) + ((S.1 0 (4 * i + 1)).toInt64)) + ((S.1 0 (4 * i + 2)).toInt64)) + ((S.1 0 (4 * i + 3)).toInt64)) + 0) + ((nI (cnt (fun j => beatB (S.1 0) j i) n)).toInt64)) + ((nI (cnt (beatB (S.1 0) i) n)).toInt64))) hW ⟨rfl, rfl, rfl, rfl, rfl, rfl, rfl, rfl, rfl, rfl, rfl, rfl, rfl, rfl, rfl, rfl, rfl⟩
              refine lv_aload_n hx hb dX5_mixOffer_61 rfl (lv_at hl 1 rfl) ?_
              refine lv_aload_n hx hb dX5_mixOffer_62 rfl (lv_at hl 1 rfl) ?_
              refine lv_iload_n hx hb dX5_mixOffer_63 rfl (lv_at hl 2 rfl) ?_
              refine Cp.callV (v := .int (bI (isTB (S.1 0) n i))) (ct_X5_isTold l g o n i (uH S (31 * (31 * (31 * (31 * (31 * (31 * (31 * S.2.2 + ((S.1 0 (4 * i + 0)).toInt64)) + ((S.1 0 (4 * i + 1)).toInt64)) + ((S.1 0 (4 * i + 2)).toInt64)) + ((S.1 0 (4 * i + 3)).toInt64)) + 0) + ((nI (cnt (fun j => beatB (S.1 0) j i) n)).toInt64)) + ((nI (cnt (beatB (S.1 0) i) n)).toInt64))) hN hn (by omega)) X hL hl vb_X5_isTold q2111 (hW.2.1.recv hKV rfl) rfl rfl (Nat.le_of_ble_eq_true rfl) dX5_mixOffer_64 ⟨Nat.le_of_ble_eq_true rfl, Nat.le_of_ble_eq_true rfl⟩ (by omega) (by omega) hW (fun locs hL => ?_)
              refine b_ifeq (tgt := 74) X dX5_mixOffer_67 (by decide) (fun c_67 => ?_) (fun c_67 => ?_)
              ·
                refine lv_lconst (v := 0) hx hb dX5_mixOffer_74 (by decide) ?_
                refine Ct.callV (ct_X5_mix l g o (uH S (31 * (31 * (31 * (31 * (31 * (31 * (31 * S.2.2 + ((S.1 0 (4 * i + 0)).toInt64)) + ((S.1 0 (4 * i + 1)).toInt64)) + ((S.1 0 (4 * i + 2)).toInt64)) + ((S.1 0 (4 * i + 3)).toInt64)) + 0) + ((nI (cnt (fun j => beatB (S.1 0) j i) n)).toInt64)) + ((nI (cnt (beatB (S.1 0) i) n)).toInt64))) 0 ) X hL hl vb_X5_mix q2282 (hW.2.1.recv hKV rfl) rfl rfl (Nat.le_of_ble_eq_true rfl) dX5_mixOffer_75 ⟨Nat.le_of_ble_eq_true rfl, Nat.le_of_ble_eq_true rfl⟩ (by omega) (by omega) hW (fun r H1 locs hL hp => ?_)
                obtain ⟨rfl, hW, hO1⟩ := hp
                have hO := hO.trans hO1
                have hW := MW.cast (S1 := uH S (31 * (31 * (31 * (31 * (31 * (31 * (31 * (31 * S.2.2 + ((S.1 0 (4 * i + 0)).toInt64)) + ((S.1 0 (4 * i + 1)).toInt64)) + ((S.1 0 (4 * i + 2)).toInt64)) + ((S.1 0 (4 * i + 3)).toInt64)) + 0) + ((nI (cnt (fun j => beatB (S.1 0) j i) n)).toInt64)) + ((nI (cnt (beatB (S.1 0) i) n)).toInt64)) + 0)) hW ⟨rfl, rfl, rfl, rfl, rfl, rfl, rfl, rfl, rfl, rfl, rfl, rfl, rfl, rfl, rfl, rfl, rfl⟩
                refine lv_aload_n hx hb dX5_mixOffer_78 rfl (lv_at hl 1 rfl) ?_
                refine lv_aload_n hx hb dX5_mixOffer_79 rfl (lv_at hl 1 rfl) ?_
                refine lv_iload_n hx hb dX5_mixOffer_80 rfl (lv_at hl 2 rfl) ?_
                refine Cp.callV (v := .int (bI (isTB (S.1 0) n i))) (ct_X5_isTold l g o n i (uH S (31 * (31 * (31 * (31 * (31 * (31 * (31 * (31 * S.2.2 + ((S.1 0 (4 * i + 0)).toInt64)) + ((S.1 0 (4 * i + 1)).toInt64)) + ((S.1 0 (4 * i + 2)).toInt64)) + ((S.1 0 (4 * i + 3)).toInt64)) + 0) + ((nI (cnt (fun j => beatB (S.1 0) j i) n)).toInt64)) + ((nI (cnt (beatB (S.1 0) i) n)).toInt64)) + 0)) hN hn (by omega)) X hL hl vb_X5_isTold q2111 (hW.2.1.recv hKV rfl) rfl rfl (Nat.le_of_ble_eq_true rfl) dX5_mixOffer_81 ⟨Nat.le_of_ble_eq_true rfl, Nat.le_of_ble_eq_true rfl⟩ (by omega) (by omega) hW (fun locs hL => ?_)
                refine b_ifeq (tgt := 91) X dX5_mixOffer_84 (by decide) (fun c_84 => ?_) (fun c_84 => ?_)
                ·
                  refine lv_lconst (v := 0) hx hb dX5_mixOffer_91 (by decide) ?_
                  refine Ct.callV (ct_X5_mix l g o (uH S (31 * (31 * (31 * (31 * (31 * (31 * (31 * (31 * S.2.2 + ((S.1 0 (4 * i + 0)).toInt64)) + ((S.1 0 (4 * i + 1)).toInt64)) + ((S.1 0 (4 * i + 2)).toInt64)) + ((S.1 0 (4 * i + 3)).toInt64)) + 0) + ((nI (cnt (fun j => beatB (S.1 0) j i) n)).toInt64)) + ((nI (cnt (beatB (S.1 0) i) n)).toInt64)) + 0)) 0 ) X hL hl vb_X5_mix q2282 (hW.2.1.recv hKV rfl) rfl rfl (Nat.le_of_ble_eq_true rfl) dX5_mixOffer_92 ⟨Nat.le_of_ble_eq_true rfl, Nat.le_of_ble_eq_true rfl⟩ (by omega) (by omega) hW (fun r H1 locs hL hp => ?_)
                  obtain ⟨rfl, hW, hO1⟩ := hp
                  have hO := hO.trans hO1
                  have hW := MW.cast (S1 := uH S (31 * (31 * (31 * (31 * (31 * (31 * (31 * (31 * (31 * S.2.2 + ((S.1 0 (4 * i + 0)).toInt64)) + ((S.1 0 (4 * i + 1)).toInt64)) + ((S.1 0 (4 * i + 2)).toInt64)) + ((S.1 0 (4 * i + 3)).toInt64)) + 0) + ((nI (cnt (fun j => beatB (S.1 0) j i) n)).toInt64)) + ((nI (cnt (beatB (S.1 0) i) n)).toInt64)) + 0) + 0)) hW ⟨rfl, rfl, rfl, rfl, rfl, rfl, rfl, rfl, rfl, rfl, rfl, rfl, rfl, rfl, rfl, rfl, rfl⟩
                  refine lv_aload_n hx hb dX5_mixOffer_95 rfl (lv_at hl 1 rfl) ?_
                  refine lv_aload_n hx hb dX5_mixOffer_96 rfl (lv_at hl 1 rfl) ?_
                  refine mg_32 X rfl hW dX5_mixOffer_97 ?_
                  refine lv_iload_n hx hb dX5_mixOffer_100 rfl (lv_at hl 2 rfl) ?_
                  refine m_ld (v := (nI (Y i))) X hW 7 (by decide) rfl i rfl (by show i < 40; omega) (show (S.1 7) i = (nI (Y i)) from hY) dX5_mixOffer_101 ?_
                  refine lv_i2l hx hb dX5_mixOffer_102 rfl ?_
                  refine Ct.callV (ct_X5_mix l g o (uH S (31 * (31 * (31 * (31 * (31 * (31 * (31 * (31 * (31 * S.2.2 + ((S.1 0 (4 * i + 0)).toInt64)) + ((S.1 0 (4 * i + 1)).toInt64)) + ((S.1 0 (4 * i + 2)).toInt64)) + ((S.1 0 (4 * i + 3)).toInt64)) + 0) + ((nI (cnt (fun j => beatB (S.1 0) j i) n)).toInt64)) + ((nI (cnt (beatB (S.1 0) i) n)).toInt64)) + 0) + 0)) ((nI (Y i)).toInt64) ) X hL hl vb_X5_mix q2282 (hW.2.1.recv hKV rfl) rfl rfl (Nat.le_of_ble_eq_true rfl) dX5_mixOffer_103 ⟨Nat.le_of_ble_eq_true rfl, Nat.le_of_ble_eq_true rfl⟩ (by omega) (by omega) hW (fun r H1 locs hL hp => ?_)
                  obtain ⟨rfl, hW, hO1⟩ := hp
                  have hO := hO.trans hO1
                  have hW := MW.cast (S1 := uH S (31 * (31 * (31 * (31 * (31 * (31 * (31 * (31 * (31 * (31 * S.2.2 + ((S.1 0 (4 * i + 0)).toInt64)) + ((S.1 0 (4 * i + 1)).toInt64)) + ((S.1 0 (4 * i + 2)).toInt64)) + ((S.1 0 (4 * i + 3)).toInt64)) + 0) + ((nI (cnt (fun j => beatB (S.1 0) j i) n)).toInt64)) + ((nI (cnt (beatB (S.1 0) i) n)).toInt64)) + 0) + 0) + ((nI (Y i)).toInt64))) hW ⟨rfl, rfl, rfl, rfl, rfl, rfl, rfl, rfl, rfl, rfl, rfl, rfl, rfl, rfl, rfl, rfl, rfl⟩
                  refine lv_aload_n hx hb dX5_mixOffer_106 rfl (lv_at hl 1 rfl) ?_
                  refine lv_aload_n hx hb dX5_mixOffer_107 rfl (lv_at hl 1 rfl) ?_
                  refine mg_32 X rfl hW dX5_mixOffer_108 ?_
                  refine lv_iload_n hx hb dX5_mixOffer_111 rfl (lv_at hl 2 rfl) ?_
                  refine m_ld (v := (nI (Y i))) X hW 7 (by decide) rfl i rfl (by show i < 40; omega) (show (S.1 7) i = (nI (Y i)) from hY) dX5_mixOffer_112 ?_
                  refine lv_i2l hx hb dX5_mixOffer_113 rfl ?_
                  refine Ct.callV (ct_X5_mix l g o (uH S (31 * (31 * (31 * (31 * (31 * (31 * (31 * (31 * (31 * (31 * S.2.2 + ((S.1 0 (4 * i + 0)).toInt64)) + ((S.1 0 (4 * i + 1)).toInt64)) + ((S.1 0 (4 * i + 2)).toInt64)) + ((S.1 0 (4 * i + 3)).toInt64)) + 0) + ((nI (cnt (fun j => beatB (S.1 0) j i) n)).toInt64)) + ((nI (cnt (beatB (S.1 0) i) n)).toInt64)) + 0) + 0) + ((nI (Y i)).toInt64))) ((nI (Y i)).toInt64) ) X hL hl vb_X5_mix q2282 (hW.2.1.recv hKV rfl) rfl rfl (Nat.le_of_ble_eq_true rfl) dX5_mixOffer_114 ⟨Nat.le_of_ble_eq_true rfl, Nat.le_of_ble_eq_true rfl⟩ (by omega) (by omega) hW (fun r H1 locs hL hp => ?_)
                  obtain ⟨rfl, hW, hO1⟩ := hp
                  have hO := hO.trans hO1
                  have hW := MW.cast (S1 := uH S (31 * (31 * (31 * (31 * (31 * (31 * (31 * (31 * (31 * (31 * (31 * S.2.2 + ((S.1 0 (4 * i + 0)).toInt64)) + ((S.1 0 (4 * i + 1)).toInt64)) + ((S.1 0 (4 * i + 2)).toInt64)) + ((S.1 0 (4 * i + 3)).toInt64)) + 0) + ((nI (cnt (fun j => beatB (S.1 0) j i) n)).toInt64)) + ((nI (cnt (beatB (S.1 0) i) n)).toInt64)) + 0) + 0) + ((nI (Y i)).toInt64)) + ((nI (Y i)).toInt64))) hW ⟨rfl, rfl, rfl, rfl, rfl, rfl, rfl, rfl, rfl, rfl, rfl, rfl, rfl, rfl, rfl, rfl, rfl⟩
                  refine lv_aload_n hx hb dX5_mixOffer_117 rfl (lv_at hl 1 rfl) ?_
                  refine lv_aload_n hx hb dX5_mixOffer_118 rfl (lv_at hl 1 rfl) ?_
                  refine lv_iload_n hx hb dX5_mixOffer_119 rfl (lv_at hl 2 rfl) ?_
                  refine Cp.callV (v := .int (scoI (S.1 0) i)) (ct_X5_score l g o i (uH S (31 * (31 * (31 * (31 * (31 * (31 * (31 * (31 * (31 * (31 * (31 * S.2.2 + ((S.1 0 (4 * i + 0)).toInt64)) + ((S.1 0 (4 * i + 1)).toInt64)) + ((S.1 0 (4 * i + 2)).toInt64)) + ((S.1 0 (4 * i + 3)).toInt64)) + 0) + ((nI (cnt (fun j => beatB (S.1 0) j i) n)).toInt64)) + ((nI (cnt (beatB (S.1 0) i) n)).toInt64)) + 0) + 0) + ((nI (Y i)).toInt64)) + ((nI (Y i)).toInt64))) (by omega)) X hL hl vb_X5_score q2232 (hW.2.1.recv hKV rfl) rfl rfl (Nat.le_of_ble_eq_true rfl) dX5_mixOffer_120 ⟨Nat.le_of_ble_eq_true rfl, Nat.le_of_ble_eq_true rfl⟩ (by omega) (by omega) hW (fun locs hL => ?_)
                  refine lv_i2l hx hb dX5_mixOffer_123 rfl ?_
                  refine Ct.callV (ct_X5_mix l g o (uH S (31 * (31 * (31 * (31 * (31 * (31 * (31 * (31 * (31 * (31 * (31 * S.2.2 + ((S.1 0 (4 * i + 0)).toInt64)) + ((S.1 0 (4 * i + 1)).toInt64)) + ((S.1 0 (4 * i + 2)).toInt64)) + ((S.1 0 (4 * i + 3)).toInt64)) + 0) + ((nI (cnt (fun j => beatB (S.1 0) j i) n)).toInt64)) + ((nI (cnt (beatB (S.1 0) i) n)).toInt64)) + 0) + 0) + ((nI (Y i)).toInt64)) + ((nI (Y i)).toInt64))) ((scoI (S.1 0) i).toInt64) ) X hL hl vb_X5_mix q2282 (hW.2.1.recv hKV rfl) rfl rfl (Nat.le_of_ble_eq_true rfl) dX5_mixOffer_124 ⟨Nat.le_of_ble_eq_true rfl, Nat.le_of_ble_eq_true rfl⟩ (by omega) (by omega) hW (fun r H1 locs hL hp => ?_)
                  obtain ⟨rfl, hW, hO1⟩ := hp
                  have hO := hO.trans hO1
                  have hW := MW.cast (S1 := uH S (31 * (31 * (31 * (31 * (31 * (31 * (31 * (31 * (31 * (31 * (31 * (31 * S.2.2 + ((S.1 0 (4 * i + 0)).toInt64)) + ((S.1 0 (4 * i + 1)).toInt64)) + ((S.1 0 (4 * i + 2)).toInt64)) + ((S.1 0 (4 * i + 3)).toInt64)) + 0) + ((nI (cnt (fun j => beatB (S.1 0) j i) n)).toInt64)) + ((nI (cnt (beatB (S.1 0) i) n)).toInt64)) + 0) + 0) + ((nI (Y i)).toInt64)) + ((nI (Y i)).toInt64)) + ((scoI (S.1 0) i).toInt64))) hW ⟨rfl, rfl, rfl, rfl, rfl, rfl, rfl, rfl, rfl, rfl, rfl, rfl, rfl, rfl, rfl, rfl, rfl⟩
                  exact r_vret X hL dX5_mixOffer_127 (by omega) (by omega) ⟨31 * (31 * (31 * (31 * (31 * (31 * (31 * (31 * (31 * (31 * (31 * (31 * S.2.2 + ((S.1 0 (4 * i + 0)).toInt64)) + ((S.1 0 (4 * i + 1)).toInt64)) + ((S.1 0 (4 * i + 2)).toInt64)) + ((S.1 0 (4 * i + 3)).toInt64)) + 0) + ((nI (cnt (fun j => beatB (S.1 0) j i) n)).toInt64)) + ((nI (cnt (beatB (S.1 0) i) n)).toInt64)) + 0) + 0) + ((nI (Y i)).toInt64)) + ((nI (Y i)).toInt64)) + ((scoI (S.1 0) i).toInt64), (by simp only [mxs, offL, List.foldl, bL, c_30, c_67, c_84, if_true, if_false, Bool.false_eq_true]), rfl, (MW.cast hW ⟨rfl, rfl, rfl, rfl, rfl, rfl, rfl, rfl, rfl, rfl, rfl, rfl, rfl, rfl, rfl, rfl, rfl⟩), hO⟩
                ·
                  exact absurd (c_67.symm.trans c_84) (by decide)
              ·
                refine lv_lconst (v := 1) hx hb dX5_mixOffer_70 (by decide) ?_
                refine lv_goto (tgt := 75) hx hb dX5_mixOffer_71 (by decide) ?_
                refine Ct.callV (ct_X5_mix l g o (uH S (31 * (31 * (31 * (31 * (31 * (31 * (31 * S.2.2 + ((S.1 0 (4 * i + 0)).toInt64)) + ((S.1 0 (4 * i + 1)).toInt64)) + ((S.1 0 (4 * i + 2)).toInt64)) + ((S.1 0 (4 * i + 3)).toInt64)) + 0) + ((nI (cnt (fun j => beatB (S.1 0) j i) n)).toInt64)) + ((nI (cnt (beatB (S.1 0) i) n)).toInt64))) 1 ) X hL hl vb_X5_mix q2282 (hW.2.1.recv hKV rfl) rfl rfl (Nat.le_of_ble_eq_true rfl) dX5_mixOffer_75 ⟨Nat.le_of_ble_eq_true rfl, Nat.le_of_ble_eq_true rfl⟩ (by omega) (by omega) hW (fun r H1 locs hL hp => ?_)
                obtain ⟨rfl, hW, hO1⟩ := hp
                have hO := hO.trans hO1
                have hW := MW.cast (S1 := uH S (31 * (31 * (31 * (31 * (31 * (31 * (31 * (31 * S.2.2 + ((S.1 0 (4 * i + 0)).toInt64)) + ((S.1 0 (4 * i + 1)).toInt64)) + ((S.1 0 (4 * i + 2)).toInt64)) + ((S.1 0 (4 * i + 3)).toInt64)) + 0) + ((nI (cnt (fun j => beatB (S.1 0) j i) n)).toInt64)) + ((nI (cnt (beatB (S.1 0) i) n)).toInt64)) + 1)) hW ⟨rfl, rfl, rfl, rfl, rfl, rfl, rfl, rfl, rfl, rfl, rfl, rfl, rfl, rfl, rfl, rfl, rfl⟩
                refine lv_aload_n hx hb dX5_mixOffer_78 rfl (lv_at hl 1 rfl) ?_
                refine lv_aload_n hx hb dX5_mixOffer_79 rfl (lv_at hl 1 rfl) ?_
                refine lv_iload_n hx hb dX5_mixOffer_80 rfl (lv_at hl 2 rfl) ?_
                refine Cp.callV (v := .int (bI (isTB (S.1 0) n i))) (ct_X5_isTold l g o n i (uH S (31 * (31 * (31 * (31 * (31 * (31 * (31 * (31 * S.2.2 + ((S.1 0 (4 * i + 0)).toInt64)) + ((S.1 0 (4 * i + 1)).toInt64)) + ((S.1 0 (4 * i + 2)).toInt64)) + ((S.1 0 (4 * i + 3)).toInt64)) + 0) + ((nI (cnt (fun j => beatB (S.1 0) j i) n)).toInt64)) + ((nI (cnt (beatB (S.1 0) i) n)).toInt64)) + 1)) hN hn (by omega)) X hL hl vb_X5_isTold q2111 (hW.2.1.recv hKV rfl) rfl rfl (Nat.le_of_ble_eq_true rfl) dX5_mixOffer_81 ⟨Nat.le_of_ble_eq_true rfl, Nat.le_of_ble_eq_true rfl⟩ (by omega) (by omega) hW (fun locs hL => ?_)
                refine b_ifeq (tgt := 91) X dX5_mixOffer_84 (by decide) (fun c_84 => ?_) (fun c_84 => ?_)
                ·
                  exact absurd (c_67.symm.trans c_84) (by decide)
                ·
                  refine lv_lconst (v := 1) hx hb dX5_mixOffer_87 (by decide) ?_
                  refine lv_goto (tgt := 92) hx hb dX5_mixOffer_88 (by decide) ?_
                  refine Ct.callV (ct_X5_mix l g o (uH S (31 * (31 * (31 * (31 * (31 * (31 * (31 * (31 * S.2.2 + ((S.1 0 (4 * i + 0)).toInt64)) + ((S.1 0 (4 * i + 1)).toInt64)) + ((S.1 0 (4 * i + 2)).toInt64)) + ((S.1 0 (4 * i + 3)).toInt64)) + 0) + ((nI (cnt (fun j => beatB (S.1 0) j i) n)).toInt64)) + ((nI (cnt (beatB (S.1 0) i) n)).toInt64)) + 1)) 1 ) X hL hl vb_X5_mix q2282 (hW.2.1.recv hKV rfl) rfl rfl (Nat.le_of_ble_eq_true rfl) dX5_mixOffer_92 ⟨Nat.le_of_ble_eq_true rfl, Nat.le_of_ble_eq_true rfl⟩ (by omega) (by omega) hW (fun r H1 locs hL hp => ?_)
                  obtain ⟨rfl, hW, hO1⟩ := hp
                  have hO := hO.trans hO1
                  have hW := MW.cast (S1 := uH S (31 * (31 * (31 * (31 * (31 * (31 * (31 * (31 * (31 * S.2.2 + ((S.1 0 (4 * i + 0)).toInt64)) + ((S.1 0 (4 * i + 1)).toInt64)) + ((S.1 0 (4 * i + 2)).toInt64)) + ((S.1 0 (4 * i + 3)).toInt64)) + 0) + ((nI (cnt (fun j => beatB (S.1 0) j i) n)).toInt64)) + ((nI (cnt (beatB (S.1 0) i) n)).toInt64)) + 1) + 1)) hW ⟨rfl, rfl, rfl, rfl, rfl, rfl, rfl, rfl, rfl, rfl, rfl, rfl, rfl, rfl, rfl, rfl, rfl⟩
                  refine lv_aload_n hx hb dX5_mixOffer_95 rfl (lv_at hl 1 rfl) ?_
                  refine lv_aload_n hx hb dX5_mixOffer_96 rfl (lv_at hl 1 rfl) ?_
                  refine mg_32 X rfl hW dX5_mixOffer_97 ?_
                  refine lv_iload_n hx hb dX5_mixOffer_100 rfl (lv_at hl 2 rfl) ?_
                  refine m_ld (v := (nI (Y i))) X hW 7 (by decide) rfl i rfl (by show i < 40; omega) (show (S.1 7) i = (nI (Y i)) from hY) dX5_mixOffer_101 ?_
                  refine lv_i2l hx hb dX5_mixOffer_102 rfl ?_
                  refine Ct.callV (ct_X5_mix l g o (uH S (31 * (31 * (31 * (31 * (31 * (31 * (31 * (31 * (31 * S.2.2 + ((S.1 0 (4 * i + 0)).toInt64)) + ((S.1 0 (4 * i + 1)).toInt64)) + ((S.1 0 (4 * i + 2)).toInt64)) + ((S.1 0 (4 * i + 3)).toInt64)) + 0) + ((nI (cnt (fun j => beatB (S.1 0) j i) n)).toInt64)) + ((nI (cnt (beatB (S.1 0) i) n)).toInt64)) + 1) + 1)) ((nI (Y i)).toInt64) ) X hL hl vb_X5_mix q2282 (hW.2.1.recv hKV rfl) rfl rfl (Nat.le_of_ble_eq_true rfl) dX5_mixOffer_103 ⟨Nat.le_of_ble_eq_true rfl, Nat.le_of_ble_eq_true rfl⟩ (by omega) (by omega) hW (fun r H1 locs hL hp => ?_)
                  obtain ⟨rfl, hW, hO1⟩ := hp
                  have hO := hO.trans hO1
                  have hW := MW.cast (S1 := uH S (31 * (31 * (31 * (31 * (31 * (31 * (31 * (31 * (31 * (31 * S.2.2 + ((S.1 0 (4 * i + 0)).toInt64)) + ((S.1 0 (4 * i + 1)).toInt64)) + ((S.1 0 (4 * i + 2)).toInt64)) + ((S.1 0 (4 * i + 3)).toInt64)) + 0) + ((nI (cnt (fun j => beatB (S.1 0) j i) n)).toInt64)) + ((nI (cnt (beatB (S.1 0) i) n)).toInt64)) + 1) + 1) + ((nI (Y i)).toInt64))) hW ⟨rfl, rfl, rfl, rfl, rfl, rfl, rfl, rfl, rfl, rfl, rfl, rfl, rfl, rfl, rfl, rfl, rfl⟩
                  refine lv_aload_n hx hb dX5_mixOffer_106 rfl (lv_at hl 1 rfl) ?_
                  refine lv_aload_n hx hb dX5_mixOffer_107 rfl (lv_at hl 1 rfl) ?_
                  refine mg_32 X rfl hW dX5_mixOffer_108 ?_
                  refine lv_iload_n hx hb dX5_mixOffer_111 rfl (lv_at hl 2 rfl) ?_
                  refine m_ld (v := (nI (Y i))) X hW 7 (by decide) rfl i rfl (by show i < 40; omega) (show (S.1 7) i = (nI (Y i)) from hY) dX5_mixOffer_112 ?_
                  refine lv_i2l hx hb dX5_mixOffer_113 rfl ?_
                  refine Ct.callV (ct_X5_mix l g o (uH S (31 * (31 * (31 * (31 * (31 * (31 * (31 * (31 * (31 * (31 * S.2.2 + ((S.1 0 (4 * i + 0)).toInt64)) + ((S.1 0 (4 * i + 1)).toInt64)) + ((S.1 0 (4 * i + 2)).toInt64)) + ((S.1 0 (4 * i + 3)).toInt64)) + 0) + ((nI (cnt (fun j => beatB (S.1 0) j i) n)).toInt64)) + ((nI (cnt (beatB (S.1 0) i) n)).toInt64)) + 1) + 1) + ((nI (Y i)).toInt64))) ((nI (Y i)).toInt64) ) X hL hl vb_X5_mix q2282 (hW.2.1.recv hKV rfl) rfl rfl (Nat.le_of_ble_eq_true rfl) dX5_mixOffer_114 ⟨Nat.le_of_ble_eq_true rfl, Nat.le_of_ble_eq_true rfl⟩ (by omega) (by omega) hW (fun r H1 locs hL hp => ?_)
                  obtain ⟨rfl, hW, hO1⟩ := hp
                  have hO := hO.trans hO1
                  have hW := MW.cast (S1 := uH S (31 * (31 * (31 * (31 * (31 * (31 * (31 * (31 * (31 * (31 * (31 * S.2.2 + ((S.1 0 (4 * i + 0)).toInt64)) + ((S.1 0 (4 * i + 1)).toInt64)) + ((S.1 0 (4 * i + 2)).toInt64)) + ((S.1 0 (4 * i + 3)).toInt64)) + 0) + ((nI (cnt (fun j => beatB (S.1 0) j i) n)).toInt64)) + ((nI (cnt (beatB (S.1 0) i) n)).toInt64)) + 1) + 1) + ((nI (Y i)).toInt64)) + ((nI (Y i)).toInt64))) hW ⟨rfl, rfl, rfl, rfl, rfl, rfl, rfl, rfl, rfl, rfl, rfl, rfl, rfl, rfl, rfl, rfl, rfl⟩
                  refine lv_aload_n hx hb dX5_mixOffer_117 rfl (lv_at hl 1 rfl) ?_
                  refine lv_aload_n hx hb dX5_mixOffer_118 rfl (lv_at hl 1 rfl) ?_
                  refine lv_iload_n hx hb dX5_mixOffer_119 rfl (lv_at hl 2 rfl) ?_
                  refine Cp.callV (v := .int (scoI (S.1 0) i)) (ct_X5_score l g o i (uH S (31 * (31 * (31 * (31 * (31 * (31 * (31 * (31 * (31 * (31 * (31 * S.2.2 + ((S.1 0 (4 * i + 0)).toInt64)) + ((S.1 0 (4 * i + 1)).toInt64)) + ((S.1 0 (4 * i + 2)).toInt64)) + ((S.1 0 (4 * i + 3)).toInt64)) + 0) + ((nI (cnt (fun j => beatB (S.1 0) j i) n)).toInt64)) + ((nI (cnt (beatB (S.1 0) i) n)).toInt64)) + 1) + 1) + ((nI (Y i)).toInt64)) + ((nI (Y i)).toInt64))) (by omega)) X hL hl vb_X5_score q2232 (hW.2.1.recv hKV rfl) rfl rfl (Nat.le_of_ble_eq_true rfl) dX5_mixOffer_120 ⟨Nat.le_of_ble_eq_true rfl, Nat.le_of_ble_eq_true rfl⟩ (by omega) (by omega) hW (fun locs hL => ?_)
                  refine lv_i2l hx hb dX5_mixOffer_123 rfl ?_
                  refine Ct.callV (ct_X5_mix l g o (uH S (31 * (31 * (31 * (31 * (31 * (31 * (31 * (31 * (31 * (31 * (31 * S.2.2 + ((S.1 0 (4 * i + 0)).toInt64)) + ((S.1 0 (4 * i + 1)).toInt64)) + ((S.1 0 (4 * i + 2)).toInt64)) + ((S.1 0 (4 * i + 3)).toInt64)) + 0) + ((nI (cnt (fun j => beatB (S.1 0) j i) n)).toInt64)) + ((nI (cnt (beatB (S.1 0) i) n)).toInt64)) + 1) + 1) + ((nI (Y i)).toInt64)) + ((nI (Y i)).toInt64))) ((scoI (S.1 0) i).toInt64) ) X hL hl vb_X5_mix q2282 (hW.2.1.recv hKV rfl) rfl rfl (Nat.le_of_ble_eq_true rfl) dX5_mixOffer_124 ⟨Nat.le_of_ble_eq_true rfl, Nat.le_of_ble_eq_true rfl⟩ (by omega) (by omega) hW (fun r H1 locs hL hp => ?_)
                  obtain ⟨rfl, hW, hO1⟩ := hp
                  have hO := hO.trans hO1
                  have hW := MW.cast (S1 := uH S (31 * (31 * (31 * (31 * (31 * (31 * (31 * (31 * (31 * (31 * (31 * (31 * S.2.2 + ((S.1 0 (4 * i + 0)).toInt64)) + ((S.1 0 (4 * i + 1)).toInt64)) + ((S.1 0 (4 * i + 2)).toInt64)) + ((S.1 0 (4 * i + 3)).toInt64)) + 0) + ((nI (cnt (fun j => beatB (S.1 0) j i) n)).toInt64)) + ((nI (cnt (beatB (S.1 0) i) n)).toInt64)) + 1) + 1) + ((nI (Y i)).toInt64)) + ((nI (Y i)).toInt64)) + ((scoI (S.1 0) i).toInt64))) hW ⟨rfl, rfl, rfl, rfl, rfl, rfl, rfl, rfl, rfl, rfl, rfl, rfl, rfl, rfl, rfl, rfl, rfl⟩
                  exact r_vret X hL dX5_mixOffer_127 (by omega) (by omega) ⟨31 * (31 * (31 * (31 * (31 * (31 * (31 * (31 * (31 * (31 * (31 * (31 * S.2.2 + ((S.1 0 (4 * i + 0)).toInt64)) + ((S.1 0 (4 * i + 1)).toInt64)) + ((S.1 0 (4 * i + 2)).toInt64)) + ((S.1 0 (4 * i + 3)).toInt64)) + 0) + ((nI (cnt (fun j => beatB (S.1 0) j i) n)).toInt64)) + ((nI (cnt (beatB (S.1 0) i) n)).toInt64)) + 1) + 1) + ((nI (Y i)).toInt64)) + ((nI (Y i)).toInt64)) + ((scoI (S.1 0) i).toInt64), (by simp only [mxs, offL, List.foldl, bL, c_30, c_67, c_84, if_true, if_false, Bool.false_eq_true]), rfl, (MW.cast hW ⟨rfl, rfl, rfl, rfl, rfl, rfl, rfl, rfl, rfl, rfl, rfl, rfl, rfl, rfl, rfl, rfl, rfl⟩), hO⟩
            ·
              refine lv_lconst (v := 1) hx hb dX5_mixOffer_33 (by decide) ?_
              refine lv_goto (tgt := 38) hx hb dX5_mixOffer_34 (by decide) ?_
              refine Ct.callV (ct_X5_mix l g o (uH S (31 * (31 * (31 * (31 * S.2.2 + ((S.1 0 (4 * i + 0)).toInt64)) + ((S.1 0 (4 * i + 1)).toInt64)) + ((S.1 0 (4 * i + 2)).toInt64)) + ((S.1 0 (4 * i + 3)).toInt64))) 1 ) X hL hl vb_X5_mix q2282 (hW.2.1.recv hKV rfl) rfl rfl (Nat.le_of_ble_eq_true rfl) dX5_mixOffer_38 ⟨Nat.le_of_ble_eq_true rfl, Nat.le_of_ble_eq_true rfl⟩ (by omega) (by omega) hW (fun r H1 locs hL hp => ?_)
              obtain ⟨rfl, hW, hO1⟩ := hp
              have hO := hO.trans hO1
              have hW := MW.cast (S1 := uH S (31 * (31 * (31 * (31 * (31 * S.2.2 + ((S.1 0 (4 * i + 0)).toInt64)) + ((S.1 0 (4 * i + 1)).toInt64)) + ((S.1 0 (4 * i + 2)).toInt64)) + ((S.1 0 (4 * i + 3)).toInt64)) + 1)) hW ⟨rfl, rfl, rfl, rfl, rfl, rfl, rfl, rfl, rfl, rfl, rfl, rfl, rfl, rfl, rfl, rfl, rfl⟩
              refine lv_aload_n hx hb dX5_mixOffer_41 rfl (lv_at hl 1 rfl) ?_
              refine lv_aload_n hx hb dX5_mixOffer_42 rfl (lv_at hl 1 rfl) ?_
              refine lv_iload_n hx hb dX5_mixOffer_43 rfl (lv_at hl 2 rfl) ?_
              refine Cp.callV (v := .int (nI (cnt (fun j => beatB (S.1 0) j i) n))) (ct_X5_beaters l g o n i (uH S (31 * (31 * (31 * (31 * (31 * S.2.2 + ((S.1 0 (4 * i + 0)).toInt64)) + ((S.1 0 (4 * i + 1)).toInt64)) + ((S.1 0 (4 * i + 2)).toInt64)) + ((S.1 0 (4 * i + 3)).toInt64)) + 1)) hN hn (by omega)) X hL hl vb_X5_beaters q2095 (hW.2.1.recv hKV rfl) rfl rfl (Nat.le_of_ble_eq_true rfl) dX5_mixOffer_44 ⟨Nat.le_of_ble_eq_true rfl, Nat.le_of_ble_eq_true rfl⟩ (by omega) (by omega) hW (fun locs hL => ?_)
              refine lv_i2l hx hb dX5_mixOffer_47 rfl ?_
              refine Ct.callV (ct_X5_mix l g o (uH S (31 * (31 * (31 * (31 * (31 * S.2.2 + ((S.1 0 (4 * i + 0)).toInt64)) + ((S.1 0 (4 * i + 1)).toInt64)) + ((S.1 0 (4 * i + 2)).toInt64)) + ((S.1 0 (4 * i + 3)).toInt64)) + 1)) ((nI (cnt (fun j => beatB (S.1 0) j i) n)).toInt64) ) X hL hl vb_X5_mix q2282 (hW.2.1.recv hKV rfl) rfl rfl (Nat.le_of_ble_eq_true rfl) dX5_mixOffer_48 ⟨Nat.le_of_ble_eq_true rfl, Nat.le_of_ble_eq_true rfl⟩ (by omega) (by omega) hW (fun r H1 locs hL hp => ?_)
              obtain ⟨rfl, hW, hO1⟩ := hp
              have hO := hO.trans hO1
              have hW := MW.cast (S1 := uH S (31 * (31 * (31 * (31 * (31 * (31 * S.2.2 + ((S.1 0 (4 * i + 0)).toInt64)) + ((S.1 0 (4 * i + 1)).toInt64)) + ((S.1 0 (4 * i + 2)).toInt64)) + ((S.1 0 (4 * i + 3)).toInt64)) + 1) + ((nI (cnt (fun j => beatB (S.1 0) j i) n)).toInt64))) hW ⟨rfl, rfl, rfl, rfl, rfl, rfl, rfl, rfl, rfl, rfl, rfl, rfl, rfl, rfl, rfl, rfl, rfl⟩
              refine lv_aload_n hx hb dX5_mixOffer_51 rfl (lv_at hl 1 rfl) ?_
              refine lv_aload_n hx hb dX5_mixOffer_52 rfl (lv_at hl 1 rfl) ?_
              refine lv_iload_n hx hb dX5_mixOffer_53 rfl (lv_at hl 2 rfl) ?_
              refine Cp.callV (v := .int (nI (cnt (beatB (S.1 0) i) n))) (ct_X5_beaten l g o n i (uH S (31 * (31 * (31 * (31 * (31 * (31 * S.2.2 + ((S.1 0 (4 * i + 0)).toInt64)) + ((S.1 0 (4 * i + 1)).toInt64)) + ((S.1 0 (4 * i + 2)).toInt64)) + ((S.1 0 (4 * i + 3)).toInt64)) + 1) + ((nI (cnt (fun j => beatB (S.1 0) j i) n)).toInt64))) hN hn (by omega)) X hL hl vb_X5_beaten q2103 (hW.2.1.recv hKV rfl) rfl rfl (Nat.le_of_ble_eq_true rfl) dX5_mixOffer_54 ⟨Nat.le_of_ble_eq_true rfl, Nat.le_of_ble_eq_true rfl⟩ (by omega) (by omega) hW (fun locs hL => ?_)
              refine lv_i2l hx hb dX5_mixOffer_57 rfl ?_
              refine Ct.callV (ct_X5_mix l g o (uH S (31 * (31 * (31 * (31 * (31 * (31 * S.2.2 + ((S.1 0 (4 * i + 0)).toInt64)) + ((S.1 0 (4 * i + 1)).toInt64)) + ((S.1 0 (4 * i + 2)).toInt64)) + ((S.1 0 (4 * i + 3)).toInt64)) + 1) + ((nI (cnt (fun j => beatB (S.1 0) j i) n)).toInt64))) ((nI (cnt (beatB (S.1 0) i) n)).toInt64) ) X hL hl vb_X5_mix q2282 (hW.2.1.recv hKV rfl) rfl rfl (Nat.le_of_ble_eq_true rfl) dX5_mixOffer_58 ⟨Nat.le_of_ble_eq_true rfl, Nat.le_of_ble_eq_true rfl⟩ (by omega) (by omega) hW (fun r H1 locs hL hp => ?_)
              obtain ⟨rfl, hW, hO1⟩ := hp
              have hO := hO.trans hO1
              have hW := MW.cast (S1 := uH S (31 * (31 * (31 * (31 * (31 * (31 * (31 * S.2.2 + ((S.1 0 (4 * i + 0)).toInt64)) + ((S.1 0 (4 * i + 1)).toInt64)) + ((S.1 0 (4 * i + 2)).toInt64)) + ((S.1 0 (4 * i + 3)).toInt64)) + 1) + ((nI (cnt (fun j => beatB (S.1 0) j i) n)).toInt64)) + ((nI (cnt (beatB (S.1 0) i) n)).toInt64))) hW ⟨rfl, rfl, rfl, rfl, rfl, rfl, rfl, rfl, rfl, rfl, rfl, rfl, rfl, rfl, rfl, rfl, rfl⟩
              refine lv_aload_n hx hb dX5_mixOffer_61 rfl (lv_at hl 1 rfl) ?_
              refine lv_aload_n hx hb dX5_mixOffer_62 rfl (lv_at hl 1 rfl) ?_
              refine lv_iload_n hx hb dX5_mixOffer_63 rfl (lv_at hl 2 rfl) ?_
              refine Cp.callV (v := .int (bI (isTB (S.1 0) n i))) (ct_X5_isTold l g o n i (uH S (31 * (31 * (31 * (31 * (31 * (31 * (31 * S.2.2 + ((S.1 0 (4 * i + 0)).toInt64)) + ((S.1 0 (4 * i + 1)).toInt64)) + ((S.1 0 (4 * i + 2)).toInt64)) + ((S.1 0 (4 * i + 3)).toInt64)) + 1) + ((nI (cnt (fun j => beatB (S.1 0) j i) n)).toInt64)) + ((nI (cnt (beatB (S.1 0) i) n)).toInt64))) hN hn (by omega)) X hL hl vb_X5_isTold q2111 (hW.2.1.recv hKV rfl) rfl rfl (Nat.le_of_ble_eq_true rfl) dX5_mixOffer_64 ⟨Nat.le_of_ble_eq_true rfl, Nat.le_of_ble_eq_true rfl⟩ (by omega) (by omega) hW (fun locs hL => ?_)
              refine b_ifeq (tgt := 74) X dX5_mixOffer_67 (by decide) (fun c_67 => ?_) (fun c_67 => ?_)
              ·
                refine lv_lconst (v := 0) hx hb dX5_mixOffer_74 (by decide) ?_
                refine Ct.callV (ct_X5_mix l g o (uH S (31 * (31 * (31 * (31 * (31 * (31 * (31 * S.2.2 + ((S.1 0 (4 * i + 0)).toInt64)) + ((S.1 0 (4 * i + 1)).toInt64)) + ((S.1 0 (4 * i + 2)).toInt64)) + ((S.1 0 (4 * i + 3)).toInt64)) + 1) + ((nI (cnt (fun j => beatB (S.1 0) j i) n)).toInt64)) + ((nI (cnt (beatB (S.1 0) i) n)).toInt64))) 0 ) X hL hl vb_X5_mix q2282 (hW.2.1.recv hKV rfl) rfl rfl (Nat.le_of_ble_eq_true rfl) dX5_mixOffer_75 ⟨Nat.le_of_ble_eq_true rfl, Nat.le_of_ble_eq_true rfl⟩ (by omega) (by omega) hW (fun r H1 locs hL hp => ?_)
                obtain ⟨rfl, hW, hO1⟩ := hp
                have hO := hO.trans hO1
                have hW := MW.cast (S1 := uH S (31 * (31 * (31 * (31 * (31 * (31 * (31 * (31 * S.2.2 + ((S.1 0 (4 * i + 0)).toInt64)) + ((S.1 0 (4 * i + 1)).toInt64)) + ((S.1 0 (4 * i + 2)).toInt64)) + ((S.1 0 (4 * i + 3)).toInt64)) + 1) + ((nI (cnt (fun j => beatB (S.1 0) j i) n)).toInt64)) + ((nI (cnt (beatB (S.1 0) i) n)).toInt64)) + 0)) hW ⟨rfl, rfl, rfl, rfl, rfl, rfl, rfl, rfl, rfl, rfl, rfl, rfl, rfl, rfl, rfl, rfl, rfl⟩
                refine lv_aload_n hx hb dX5_mixOffer_78 rfl (lv_at hl 1 rfl) ?_
                refine lv_aload_n hx hb dX5_mixOffer_79 rfl (lv_at hl 1 rfl) ?_
                refine lv_iload_n hx hb dX5_mixOffer_80 rfl (lv_at hl 2 rfl) ?_
                refine Cp.callV (v := .int (bI (isTB (S.1 0) n i))) (ct_X5_isTold l g o n i (uH S (31 * (31 * (31 * (31 * (31 * (31 * (31 * (31 * S.2.2 + ((S.1 0 (4 * i + 0)).toInt64)) + ((S.1 0 (4 * i + 1)).toInt64)) + ((S.1 0 (4 * i + 2)).toInt64)) + ((S.1 0 (4 * i + 3)).toInt64)) + 1) + ((nI (cnt (fun j => beatB (S.1 0) j i) n)).toInt64)) + ((nI (cnt (beatB (S.1 0) i) n)).toInt64)) + 0)) hN hn (by omega)) X hL hl vb_X5_isTold q2111 (hW.2.1.recv hKV rfl) rfl rfl (Nat.le_of_ble_eq_true rfl) dX5_mixOffer_81 ⟨Nat.le_of_ble_eq_true rfl, Nat.le_of_ble_eq_true rfl⟩ (by omega) (by omega) hW (fun locs hL => ?_)
                refine b_ifeq (tgt := 91) X dX5_mixOffer_84 (by decide) (fun c_84 => ?_) (fun c_84 => ?_)
                ·
                  refine lv_lconst (v := 0) hx hb dX5_mixOffer_91 (by decide) ?_
                  refine Ct.callV (ct_X5_mix l g o (uH S (31 * (31 * (31 * (31 * (31 * (31 * (31 * (31 * S.2.2 + ((S.1 0 (4 * i + 0)).toInt64)) + ((S.1 0 (4 * i + 1)).toInt64)) + ((S.1 0 (4 * i + 2)).toInt64)) + ((S.1 0 (4 * i + 3)).toInt64)) + 1) + ((nI (cnt (fun j => beatB (S.1 0) j i) n)).toInt64)) + ((nI (cnt (beatB (S.1 0) i) n)).toInt64)) + 0)) 0 ) X hL hl vb_X5_mix q2282 (hW.2.1.recv hKV rfl) rfl rfl (Nat.le_of_ble_eq_true rfl) dX5_mixOffer_92 ⟨Nat.le_of_ble_eq_true rfl, Nat.le_of_ble_eq_true rfl⟩ (by omega) (by omega) hW (fun r H1 locs hL hp => ?_)
                  obtain ⟨rfl, hW, hO1⟩ := hp
                  have hO := hO.trans hO1
                  have hW := MW.cast (S1 := uH S (31 * (31 * (31 * (31 * (31 * (31 * (31 * (31 * (31 * S.2.2 + ((S.1 0 (4 * i + 0)).toInt64)) + ((S.1 0 (4 * i + 1)).toInt64)) + ((S.1 0 (4 * i + 2)).toInt64)) + ((S.1 0 (4 * i + 3)).toInt64)) + 1) + ((nI (cnt (fun j => beatB (S.1 0) j i) n)).toInt64)) + ((nI (cnt (beatB (S.1 0) i) n)).toInt64)) + 0) + 0)) hW ⟨rfl, rfl, rfl, rfl, rfl, rfl, rfl, rfl, rfl, rfl, rfl, rfl, rfl, rfl, rfl, rfl, rfl⟩
                  refine lv_aload_n hx hb dX5_mixOffer_95 rfl (lv_at hl 1 rfl) ?_
                  refine lv_aload_n hx hb dX5_mixOffer_96 rfl (lv_at hl 1 rfl) ?_
                  refine mg_32 X rfl hW dX5_mixOffer_97 ?_
                  refine lv_iload_n hx hb dX5_mixOffer_100 rfl (lv_at hl 2 rfl) ?_
                  refine m_ld (v := (nI (Y i))) X hW 7 (by decide) rfl i rfl (by show i < 40; omega) (show (S.1 7) i = (nI (Y i)) from hY) dX5_mixOffer_101 ?_
                  refine lv_i2l hx hb dX5_mixOffer_102 rfl ?_
                  refine Ct.callV (ct_X5_mix l g o (uH S (31 * (31 * (31 * (31 * (31 * (31 * (31 * (31 * (31 * S.2.2 + ((S.1 0 (4 * i + 0)).toInt64)) + ((S.1 0 (4 * i + 1)).toInt64)) + ((S.1 0 (4 * i + 2)).toInt64)) + ((S.1 0 (4 * i + 3)).toInt64)) + 1) + ((nI (cnt (fun j => beatB (S.1 0) j i) n)).toInt64)) + ((nI (cnt (beatB (S.1 0) i) n)).toInt64)) + 0) + 0)) ((nI (Y i)).toInt64) ) X hL hl vb_X5_mix q2282 (hW.2.1.recv hKV rfl) rfl rfl (Nat.le_of_ble_eq_true rfl) dX5_mixOffer_103 ⟨Nat.le_of_ble_eq_true rfl, Nat.le_of_ble_eq_true rfl⟩ (by omega) (by omega) hW (fun r H1 locs hL hp => ?_)
                  obtain ⟨rfl, hW, hO1⟩ := hp
                  have hO := hO.trans hO1
                  have hW := MW.cast (S1 := uH S (31 * (31 * (31 * (31 * (31 * (31 * (31 * (31 * (31 * (31 * S.2.2 + ((S.1 0 (4 * i + 0)).toInt64)) + ((S.1 0 (4 * i + 1)).toInt64)) + ((S.1 0 (4 * i + 2)).toInt64)) + ((S.1 0 (4 * i + 3)).toInt64)) + 1) + ((nI (cnt (fun j => beatB (S.1 0) j i) n)).toInt64)) + ((nI (cnt (beatB (S.1 0) i) n)).toInt64)) + 0) + 0) + ((nI (Y i)).toInt64))) hW ⟨rfl, rfl, rfl, rfl, rfl, rfl, rfl, rfl, rfl, rfl, rfl, rfl, rfl, rfl, rfl, rfl, rfl⟩
                  refine lv_aload_n hx hb dX5_mixOffer_106 rfl (lv_at hl 1 rfl) ?_
                  refine lv_aload_n hx hb dX5_mixOffer_107 rfl (lv_at hl 1 rfl) ?_
                  refine mg_32 X rfl hW dX5_mixOffer_108 ?_
                  refine lv_iload_n hx hb dX5_mixOffer_111 rfl (lv_at hl 2 rfl) ?_
                  refine m_ld (v := (nI (Y i))) X hW 7 (by decide) rfl i rfl (by show i < 40; omega) (show (S.1 7) i = (nI (Y i)) from hY) dX5_mixOffer_112 ?_
                  refine lv_i2l hx hb dX5_mixOffer_113 rfl ?_
                  refine Ct.callV (ct_X5_mix l g o (uH S (31 * (31 * (31 * (31 * (31 * (31 * (31 * (31 * (31 * (31 * S.2.2 + ((S.1 0 (4 * i + 0)).toInt64)) + ((S.1 0 (4 * i + 1)).toInt64)) + ((S.1 0 (4 * i + 2)).toInt64)) + ((S.1 0 (4 * i + 3)).toInt64)) + 1) + ((nI (cnt (fun j => beatB (S.1 0) j i) n)).toInt64)) + ((nI (cnt (beatB (S.1 0) i) n)).toInt64)) + 0) + 0) + ((nI (Y i)).toInt64))) ((nI (Y i)).toInt64) ) X hL hl vb_X5_mix q2282 (hW.2.1.recv hKV rfl) rfl rfl (Nat.le_of_ble_eq_true rfl) dX5_mixOffer_114 ⟨Nat.le_of_ble_eq_true rfl, Nat.le_of_ble_eq_true rfl⟩ (by omega) (by omega) hW (fun r H1 locs hL hp => ?_)
                  obtain ⟨rfl, hW, hO1⟩ := hp
                  have hO := hO.trans hO1
                  have hW := MW.cast (S1 := uH S (31 * (31 * (31 * (31 * (31 * (31 * (31 * (31 * (31 * (31 * (31 * S.2.2 + ((S.1 0 (4 * i + 0)).toInt64)) + ((S.1 0 (4 * i + 1)).toInt64)) + ((S.1 0 (4 * i + 2)).toInt64)) + ((S.1 0 (4 * i + 3)).toInt64)) + 1) + ((nI (cnt (fun j => beatB (S.1 0) j i) n)).toInt64)) + ((nI (cnt (beatB (S.1 0) i) n)).toInt64)) + 0) + 0) + ((nI (Y i)).toInt64)) + ((nI (Y i)).toInt64))) hW ⟨rfl, rfl, rfl, rfl, rfl, rfl, rfl, rfl, rfl, rfl, rfl, rfl, rfl, rfl, rfl, rfl, rfl⟩
                  refine lv_aload_n hx hb dX5_mixOffer_117 rfl (lv_at hl 1 rfl) ?_
                  refine lv_aload_n hx hb dX5_mixOffer_118 rfl (lv_at hl 1 rfl) ?_
                  refine lv_iload_n hx hb dX5_mixOffer_119 rfl (lv_at hl 2 rfl) ?_
                  refine Cp.callV (v := .int (scoI (S.1 0) i)) (ct_X5_score l g o i (uH S (31 * (31 * (31 * (31 * (31 * (31 * (31 * (31 * (31 * (31 * (31 * S.2.2 + ((S.1 0 (4 * i + 0)).toInt64)) + ((S.1 0 (4 * i + 1)).toInt64)) + ((S.1 0 (4 * i + 2)).toInt64)) + ((S.1 0 (4 * i + 3)).toInt64)) + 1) + ((nI (cnt (fun j => beatB (S.1 0) j i) n)).toInt64)) + ((nI (cnt (beatB (S.1 0) i) n)).toInt64)) + 0) + 0) + ((nI (Y i)).toInt64)) + ((nI (Y i)).toInt64))) (by omega)) X hL hl vb_X5_score q2232 (hW.2.1.recv hKV rfl) rfl rfl (Nat.le_of_ble_eq_true rfl) dX5_mixOffer_120 ⟨Nat.le_of_ble_eq_true rfl, Nat.le_of_ble_eq_true rfl⟩ (by omega) (by omega) hW (fun locs hL => ?_)
                  refine lv_i2l hx hb dX5_mixOffer_123 rfl ?_
                  refine Ct.callV (ct_X5_mix l g o (uH S (31 * (31 * (31 * (31 * (31 * (31 * (31 * (31 * (31 * (31 * (31 * S.2.2 + ((S.1 0 (4 * i + 0)).toInt64)) + ((S.1 0 (4 * i + 1)).toInt64)) + ((S.1 0 (4 * i + 2)).toInt64)) + ((S.1 0 (4 * i + 3)).toInt64)) + 1) + ((nI (cnt (fun j => beatB (S.1 0) j i) n)).toInt64)) + ((nI (cnt (beatB (S.1 0) i) n)).toInt64)) + 0) + 0) + ((nI (Y i)).toInt64)) + ((nI (Y i)).toInt64))) ((scoI (S.1 0) i).toInt64) ) X hL hl vb_X5_mix q2282 (hW.2.1.recv hKV rfl) rfl rfl (Nat.le_of_ble_eq_true rfl) dX5_mixOffer_124 ⟨Nat.le_of_ble_eq_true rfl, Nat.le_of_ble_eq_true rfl⟩ (by omega) (by omega) hW (fun r H1 locs hL hp => ?_)
                  obtain ⟨rfl, hW, hO1⟩ := hp
                  have hO := hO.trans hO1
                  have hW := MW.cast (S1 := uH S (31 * (31 * (31 * (31 * (31 * (31 * (31 * (31 * (31 * (31 * (31 * (31 * S.2.2 + ((S.1 0 (4 * i + 0)).toInt64)) + ((S.1 0 (4 * i + 1)).toInt64)) + ((S.1 0 (4 * i + 2)).toInt64)) + ((S.1 0 (4 * i + 3)).toInt64)) + 1) + ((nI (cnt (fun j => beatB (S.1 0) j i) n)).toInt64)) + ((nI (cnt (beatB (S.1 0) i) n)).toInt64)) + 0) + 0) + ((nI (Y i)).toInt64)) + ((nI (Y i)).toInt64)) + ((scoI (S.1 0) i).toInt64))) hW ⟨rfl, rfl, rfl, rfl, rfl, rfl, rfl, rfl, rfl, rfl, rfl, rfl, rfl, rfl, rfl, rfl, rfl⟩
                  exact r_vret X hL dX5_mixOffer_127 (by omega) (by omega) ⟨31 * (31 * (31 * (31 * (31 * (31 * (31 * (31 * (31 * (31 * (31 * (31 * S.2.2 + ((S.1 0 (4 * i + 0)).toInt64)) + ((S.1 0 (4 * i + 1)).toInt64)) + ((S.1 0 (4 * i + 2)).toInt64)) + ((S.1 0 (4 * i + 3)).toInt64)) + 1) + ((nI (cnt (fun j => beatB (S.1 0) j i) n)).toInt64)) + ((nI (cnt (beatB (S.1 0) i) n)).toInt64)) + 0) + 0) + ((nI (Y i)).toInt64)) + ((nI (Y i)).toInt64)) + ((scoI (S.1 0) i).toInt64), (by simp only [mxs, offL, List.foldl, bL, c_30, c_67, c_84, if_true, if_false, Bool.false_eq_true]), rfl, (MW.cast hW ⟨rfl, rfl, rfl, rfl, rfl, rfl, rfl, rfl, rfl, rfl, rfl, rfl, rfl, rfl, rfl, rfl, rfl⟩), hO⟩
                ·
                  exact absurd (c_67.symm.trans c_84) (by decide)
              ·
                refine lv_lconst (v := 1) hx hb dX5_mixOffer_70 (by decide) ?_
                refine lv_goto (tgt := 75) hx hb dX5_mixOffer_71 (by decide) ?_
                refine Ct.callV (ct_X5_mix l g o (uH S (31 * (31 * (31 * (31 * (31 * (31 * (31 * S.2.2 + ((S.1 0 (4 * i + 0)).toInt64)) + ((S.1 0 (4 * i + 1)).toInt64)) + ((S.1 0 (4 * i + 2)).toInt64)) + ((S.1 0 (4 * i + 3)).toInt64)) + 1) + ((nI (cnt (fun j => beatB (S.1 0) j i) n)).toInt64)) + ((nI (cnt (beatB (S.1 0) i) n)).toInt64))) 1 ) X hL hl vb_X5_mix q2282 (hW.2.1.recv hKV rfl) rfl rfl (Nat.le_of_ble_eq_true rfl) dX5_mixOffer_75 ⟨Nat.le_of_ble_eq_true rfl, Nat.le_of_ble_eq_true rfl⟩ (by omega) (by omega) hW (fun r H1 locs hL hp => ?_)
                obtain ⟨rfl, hW, hO1⟩ := hp
                have hO := hO.trans hO1
                have hW := MW.cast (S1 := uH S (31 * (31 * (31 * (31 * (31 * (31 * (31 * (31 * S.2.2 + ((S.1 0 (4 * i + 0)).toInt64)) + ((S.1 0 (4 * i + 1)).toInt64)) + ((S.1 0 (4 * i + 2)).toInt64)) + ((S.1 0 (4 * i + 3)).toInt64)) + 1) + ((nI (cnt (fun j => beatB (S.1 0) j i) n)).toInt64)) + ((nI (cnt (beatB (S.1 0) i) n)).toInt64)) + 1)) hW ⟨rfl, rfl, rfl, rfl, rfl, rfl, rfl, rfl, rfl, rfl, rfl, rfl, rfl, rfl, rfl, rfl, rfl⟩
                refine lv_aload_n hx hb dX5_mixOffer_78 rfl (lv_at hl 1 rfl) ?_
                refine lv_aload_n hx hb dX5_mixOffer_79 rfl (lv_at hl 1 rfl) ?_
                refine lv_iload_n hx hb dX5_mixOffer_80 rfl (lv_at hl 2 rfl) ?_
                refine Cp.callV (v := .int (bI (isTB (S.1 0) n i))) (ct_X5_isTold l g o n i (uH S (31 * (31 * (31 * (31 * (31 * (31 * (31 * (31 * S.2.2 + ((S.1 0 (4 * i + 0)).toInt64)) + ((S.1 0 (4 * i + 1)).toInt64)) + ((S.1 0 (4 * i + 2)).toInt64)) + ((S.1 0 (4 * i + 3)).toInt64)) + 1) + ((nI (cnt (fun j => beatB (S.1 0) j i) n)).toInt64)) + ((nI (cnt (beatB (S.1 0) i) n)).toInt64)) + 1)) hN hn (by omega)) X hL hl vb_X5_isTold q2111 (hW.2.1.recv hKV rfl) rfl rfl (Nat.le_of_ble_eq_true rfl) dX5_mixOffer_81 ⟨Nat.le_of_ble_eq_true rfl, Nat.le_of_ble_eq_true rfl⟩ (by omega) (by omega) hW (fun locs hL => ?_)
                refine b_ifeq (tgt := 91) X dX5_mixOffer_84 (by decide) (fun c_84 => ?_) (fun c_84 => ?_)
                ·
                  exact absurd (c_67.symm.trans c_84) (by decide)
                ·
                  refine lv_lconst (v := 1) hx hb dX5_mixOffer_87 (by decide) ?_
                  refine lv_goto (tgt := 92) hx hb dX5_mixOffer_88 (by decide) ?_
                  refine Ct.callV (ct_X5_mix l g o (uH S (31 * (31 * (31 * (31 * (31 * (31 * (31 * (31 * S.2.2 + ((S.1 0 (4 * i + 0)).toInt64)) + ((S.1 0 (4 * i + 1)).toInt64)) + ((S.1 0 (4 * i + 2)).toInt64)) + ((S.1 0 (4 * i + 3)).toInt64)) + 1) + ((nI (cnt (fun j => beatB (S.1 0) j i) n)).toInt64)) + ((nI (cnt (beatB (S.1 0) i) n)).toInt64)) + 1)) 1 ) X hL hl vb_X5_mix q2282 (hW.2.1.recv hKV rfl) rfl rfl (Nat.le_of_ble_eq_true rfl) dX5_mixOffer_92 ⟨Nat.le_of_ble_eq_true rfl, Nat.le_of_ble_eq_true rfl⟩ (by omega) (by omega) hW (fun r H1 locs hL hp => ?_)
                  obtain ⟨rfl, hW, hO1⟩ := hp
                  have hO := hO.trans hO1
                  have hW := MW.cast (S1 := uH S (31 * (31 * (31 * (31 * (31 * (31 * (31 * (31 * (31 * S.2.2 + ((S.1 0 (4 * i + 0)).toInt64)) + ((S.1 0 (4 * i + 1)).toInt64)) + ((S.1 0 (4 * i + 2)).toInt64)) + ((S.1 0 (4 * i + 3)).toInt64)) + 1) + ((nI (cnt (fun j => beatB (S.1 0) j i) n)).toInt64)) + ((nI (cnt (beatB (S.1 0) i) n)).toInt64)) + 1) + 1)) hW ⟨rfl, rfl, rfl, rfl, rfl, rfl, rfl, rfl, rfl, rfl, rfl, rfl, rfl, rfl, rfl, rfl, rfl⟩
                  refine lv_aload_n hx hb dX5_mixOffer_95 rfl (lv_at hl 1 rfl) ?_
                  refine lv_aload_n hx hb dX5_mixOffer_96 rfl (lv_at hl 1 rfl) ?_
                  refine mg_32 X rfl hW dX5_mixOffer_97 ?_
                  refine lv_iload_n hx hb dX5_mixOffer_100 rfl (lv_at hl 2 rfl) ?_
                  refine m_ld (v := (nI (Y i))) X hW 7 (by decide) rfl i rfl (by show i < 40; omega) (show (S.1 7) i = (nI (Y i)) from hY) dX5_mixOffer_101 ?_
                  refine lv_i2l hx hb dX5_mixOffer_102 rfl ?_
                  refine Ct.callV (ct_X5_mix l g o (uH S (31 * (31 * (31 * (31 * (31 * (31 * (31 * (31 * (31 * S.2.2 + ((S.1 0 (4 * i + 0)).toInt64)) + ((S.1 0 (4 * i + 1)).toInt64)) + ((S.1 0 (4 * i + 2)).toInt64)) + ((S.1 0 (4 * i + 3)).toInt64)) + 1) + ((nI (cnt (fun j => beatB (S.1 0) j i) n)).toInt64)) + ((nI (cnt (beatB (S.1 0) i) n)).toInt64)) + 1) + 1)) ((nI (Y i)).toInt64) ) X hL hl vb_X5_mix q2282 (hW.2.1.recv hKV rfl) rfl rfl (Nat.le_of_ble_eq_true rfl) dX5_mixOffer_103 ⟨Nat.le_of_ble_eq_true rfl, Nat.le_of_ble_eq_true rfl⟩ (by omega) (by omega) hW (fun r H1 locs hL hp => ?_)
                  obtain ⟨rfl, hW, hO1⟩ := hp
                  have hO := hO.trans hO1
                  have hW := MW.cast (S1 := uH S (31 * (31 * (31 * (31 * (31 * (31 * (31 * (31 * (31 * (31 * S.2.2 + ((S.1 0 (4 * i + 0)).toInt64)) + ((S.1 0 (4 * i + 1)).toInt64)) + ((S.1 0 (4 * i + 2)).toInt64)) + ((S.1 0 (4 * i + 3)).toInt64)) + 1) + ((nI (cnt (fun j => beatB (S.1 0) j i) n)).toInt64)) + ((nI (cnt (beatB (S.1 0) i) n)).toInt64)) + 1) + 1) + ((nI (Y i)).toInt64))) hW ⟨rfl, rfl, rfl, rfl, rfl, rfl, rfl, rfl, rfl, rfl, rfl, rfl, rfl, rfl, rfl, rfl, rfl⟩
                  refine lv_aload_n hx hb dX5_mixOffer_106 rfl (lv_at hl 1 rfl) ?_
                  refine lv_aload_n hx hb dX5_mixOffer_107 rfl (lv_at hl 1 rfl) ?_
                  refine mg_32 X rfl hW dX5_mixOffer_108 ?_
                  refine lv_iload_n hx hb dX5_mixOffer_111 rfl (lv_at hl 2 rfl) ?_
                  refine m_ld (v := (nI (Y i))) X hW 7 (by decide) rfl i rfl (by show i < 40; omega) (show (S.1 7) i = (nI (Y i)) from hY) dX5_mixOffer_112 ?_
                  refine lv_i2l hx hb dX5_mixOffer_113 rfl ?_
                  refine Ct.callV (ct_X5_mix l g o (uH S (31 * (31 * (31 * (31 * (31 * (31 * (31 * (31 * (31 * (31 * S.2.2 + ((S.1 0 (4 * i + 0)).toInt64)) + ((S.1 0 (4 * i + 1)).toInt64)) + ((S.1 0 (4 * i + 2)).toInt64)) + ((S.1 0 (4 * i + 3)).toInt64)) + 1) + ((nI (cnt (fun j => beatB (S.1 0) j i) n)).toInt64)) + ((nI (cnt (beatB (S.1 0) i) n)).toInt64)) + 1) + 1) + ((nI (Y i)).toInt64))) ((nI (Y i)).toInt64) ) X hL hl vb_X5_mix q2282 (hW.2.1.recv hKV rfl) rfl rfl (Nat.le_of_ble_eq_true rfl) dX5_mixOffer_114 ⟨Nat.le_of_ble_eq_true rfl, Nat.le_of_ble_eq_true rfl⟩ (by omega) (by omega) hW (fun r H1 locs hL hp => ?_)
                  obtain ⟨rfl, hW, hO1⟩ := hp
                  have hO := hO.trans hO1
                  have hW := MW.cast (S1 := uH S (31 * (31 * (31 * (31 * (31 * (31 * (31 * (31 * (31 * (31 * (31 * S.2.2 + ((S.1 0 (4 * i + 0)).toInt64)) + ((S.1 0 (4 * i + 1)).toInt64)) + ((S.1 0 (4 * i + 2)).toInt64)) + ((S.1 0 (4 * i + 3)).toInt64)) + 1) + ((nI (cnt (fun j => beatB (S.1 0) j i) n)).toInt64)) + ((nI (cnt (beatB (S.1 0) i) n)).toInt64)) + 1) + 1) + ((nI (Y i)).toInt64)) + ((nI (Y i)).toInt64))) hW ⟨rfl, rfl, rfl, rfl, rfl, rfl, rfl, rfl, rfl, rfl, rfl, rfl, rfl, rfl, rfl, rfl, rfl⟩
                  refine lv_aload_n hx hb dX5_mixOffer_117 rfl (lv_at hl 1 rfl) ?_
                  refine lv_aload_n hx hb dX5_mixOffer_118 rfl (lv_at hl 1 rfl) ?_
                  refine lv_iload_n hx hb dX5_mixOffer_119 rfl (lv_at hl 2 rfl) ?_
                  refine Cp.callV (v := .int (scoI (S.1 0) i)) (ct_X5_score l g o i (uH S (31 * (31 * (31 * (31 * (31 * (31 * (31 * (31 * (31 * (31 * (31 * S.2.2 + ((S.1 0 (4 * i + 0)).toInt64)) + ((S.1 0 (4 * i + 1)).toInt64)) + ((S.1 0 (4 * i + 2)).toInt64)) + ((S.1 0 (4 * i + 3)).toInt64)) + 1) + ((nI (cnt (fun j => beatB (S.1 0) j i) n)).toInt64)) + ((nI (cnt (beatB (S.1 0) i) n)).toInt64)) + 1) + 1) + ((nI (Y i)).toInt64)) + ((nI (Y i)).toInt64))) (by omega)) X hL hl vb_X5_score q2232 (hW.2.1.recv hKV rfl) rfl rfl (Nat.le_of_ble_eq_true rfl) dX5_mixOffer_120 ⟨Nat.le_of_ble_eq_true rfl, Nat.le_of_ble_eq_true rfl⟩ (by omega) (by omega) hW (fun locs hL => ?_)
                  refine lv_i2l hx hb dX5_mixOffer_123 rfl ?_
                  refine Ct.callV (ct_X5_mix l g o (uH S (31 * (31 * (31 * (31 * (31 * (31 * (31 * (31 * (31 * (31 * (31 * S.2.2 + ((S.1 0 (4 * i + 0)).toInt64)) + ((S.1 0 (4 * i + 1)).toInt64)) + ((S.1 0 (4 * i + 2)).toInt64)) + ((S.1 0 (4 * i + 3)).toInt64)) + 1) + ((nI (cnt (fun j => beatB (S.1 0) j i) n)).toInt64)) + ((nI (cnt (beatB (S.1 0) i) n)).toInt64)) + 1) + 1) + ((nI (Y i)).toInt64)) + ((nI (Y i)).toInt64))) ((scoI (S.1 0) i).toInt64) ) X hL hl vb_X5_mix q2282 (hW.2.1.recv hKV rfl) rfl rfl (Nat.le_of_ble_eq_true rfl) dX5_mixOffer_124 ⟨Nat.le_of_ble_eq_true rfl, Nat.le_of_ble_eq_true rfl⟩ (by omega) (by omega) hW (fun r H1 locs hL hp => ?_)
                  obtain ⟨rfl, hW, hO1⟩ := hp
                  have hO := hO.trans hO1
                  have hW := MW.cast (S1 := uH S (31 * (31 * (31 * (31 * (31 * (31 * (31 * (31 * (31 * (31 * (31 * (31 * S.2.2 + ((S.1 0 (4 * i + 0)).toInt64)) + ((S.1 0 (4 * i + 1)).toInt64)) + ((S.1 0 (4 * i + 2)).toInt64)) + ((S.1 0 (4 * i + 3)).toInt64)) + 1) + ((nI (cnt (fun j => beatB (S.1 0) j i) n)).toInt64)) + ((nI (cnt (beatB (S.1 0) i) n)).toInt64)) + 1) + 1) + ((nI (Y i)).toInt64)) + ((nI (Y i)).toInt64)) + ((scoI (S.1 0) i).toInt64))) hW ⟨rfl, rfl, rfl, rfl, rfl, rfl, rfl, rfl, rfl, rfl, rfl, rfl, rfl, rfl, rfl, rfl, rfl⟩
                  exact r_vret X hL dX5_mixOffer_127 (by omega) (by omega) ⟨31 * (31 * (31 * (31 * (31 * (31 * (31 * (31 * (31 * (31 * (31 * (31 * S.2.2 + ((S.1 0 (4 * i + 0)).toInt64)) + ((S.1 0 (4 * i + 1)).toInt64)) + ((S.1 0 (4 * i + 2)).toInt64)) + ((S.1 0 (4 * i + 3)).toInt64)) + 1) + ((nI (cnt (fun j => beatB (S.1 0) j i) n)).toInt64)) + ((nI (cnt (beatB (S.1 0) i) n)).toInt64)) + 1) + 1) + ((nI (Y i)).toInt64)) + ((nI (Y i)).toInt64)) + ((scoI (S.1 0) i).toInt64), (by simp only [mxs, offL, List.foldl, bL, c_30, c_67, c_84, if_true, if_false, Bool.false_eq_true]), rfl, (MW.cast hW ⟨rfl, rfl, rfl, rfl, rfl, rfl, rfl, rfl, rfl, rfl, rfl, rfl, rfl, rfl, rfl, rfl, rfl⟩), hO⟩
          ·
            exact absurd c_4 (by decide)
theorem vb_X5_mixOffer : VB yX5_mixOffer cX5_mixOffer 3 none 1 := ⟨q2289, qs96, q111, q2290, ⟨by decide, by decide, by decide +kernel⟩⟩
