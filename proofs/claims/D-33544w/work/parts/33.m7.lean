/-! the model's walks, seventh part: more of its calls -/
theorem ddiv_ok : ∀ a, a < 41 → ∀ b, b < 41 → 0 < b → FP.ddiv (FP.i2d (nI a)) (FP.i2d (nI b)) &&& 0x7fffffffffffffff ≤ 0x7ff0000000000000 := by decide +kernel
def s_fst2 (S : MS) (p : Nat → Bool) (n : Nat) : Nat × Option Value × MS := s_fst S (fstI p n)
def shF (t a : Nat) : UInt64 := if a = 0 then FP.dconst0 else FP.ddiv (FP.i2d (nI t)) (FP.i2d (nI a))
def q_d (S : MS) (v : UInt64) : Nat × Option Value × MS := (0, some (.double v), S)
def s_reach (S : MS) (n : Nat) (a b : Int32) : Nat × Option Value × MS := if noS a || noS b then x_ S 1 else if a = b || (!matB (mw (S.1 0)) a.toNatClampNeg || !matB (mw (S.1 0)) b.toNatClampNeg) then x_ S 2 else q_ S (reaI (S.1 0) n a.toNatClampNeg b.toNatClampNeg 100)
theorem fstI_none {p : Nat → Bool} {n : Nat} (h : fstI p n = (-1)) : fstI p n = (-1) := h

set_option maxRecDepth 100000 in
set_option maxHeartbeats 4000000 in
theorem ct_X5_toldByPairs (l : Launch) (g : GT) (o n : Nat) (S : MS) (hN : S.1 0 160 = nI n) (hn : n ≤ 40) : Ct l g yX5_toldByPairs cX5_toldByPairs 1 (some .int) 7 0 0 [.ref o] (MW g o S) (fun r H H1 => ∃ S1, AP S1 (q_ S (nI (cnt (tellB (S.1 0) n (hasB (matI (mw (S.1 0))))) n))) r ∧ MW g o S1 H1 ∧ Off o H H1) := by
  refine Ct.of (by decide) (Nat.le_of_ble_eq_true rfl) ?_
  intro p e s m args below meth c X hP ls hl
  have hx := X.1
  have hb := X.2.1
  have hKV := X.2.2.2.2.2.2.2.1.1
  have hL : ∀ q ∈ ([] : List Loc), gLo g ≤ q.base := fun _ h => by cases h
  have hl : lv_has ls 1 [(0, .ref o)] := hl
  have hW : MW g o S s.heap := hP
  have hO : Off o s.heap s.heap := Off.rfl'
  refine lv_aload_n hx hb dX5_toldByPairs_0 rfl (lv_at hl 0 rfl) ?_
  refine lv_iconst (v := nI 0) hx hb dX5_toldByPairs_1 (by decide) ?_
  refine mp_38 X rfl hL hW dX5_toldByPairs_2 (fun H locs hL hW hO1 => ?_)
  have hO := hO.trans hO1
  have hW := MW.cast (S1 := uS S 15 (nI 0)) hW ⟨rfl, rfl, rfl, rfl, rfl, rfl, rfl, rfl, rfl, rfl, rfl, rfl, rfl, rfl, rfl, rfl, rfl⟩
  refine lv_aload_n hx hb dX5_toldByPairs_5 rfl (lv_at hl 0 rfl) ?_
  refine lv_aload_n hx hb dX5_toldByPairs_6 rfl (lv_at hl 0 rfl) ?_
  refine Cp.callV (v := .int (matI (mw (S.1 0)))) (ct_X5_mattering l g o (uS S 15 (nI 0)) ) X hL hl vb_X5_mattering q1927 (hW.2.1.recv hKV rfl) rfl rfl (Nat.le_of_ble_eq_true rfl) dX5_toldByPairs_7 ⟨Nat.le_of_ble_eq_true rfl, Nat.le_of_ble_eq_true rfl⟩ (by omega) (by omega) hW (fun locs hL => ?_)
  refine Ct.callV (ct_X5_tell l g o n (uS S 15 (nI 0)) (matI (mw (S.1 0))) hN hn) X hL hl vb_X5_tell q1935 (hW.2.1.recv hKV rfl) rfl rfl (Nat.le_of_ble_eq_true rfl) dX5_toldByPairs_10 ⟨Nat.le_of_ble_eq_true rfl, Nat.le_of_ble_eq_true rfl⟩ (by omega) (by omega) hW (fun r H1 locs hL hp => ?_)
  obtain ⟨rfl, hW, hO1⟩ := hp
  have hO := hO.trans hO1
  have hW := MW.cast (S1 := uS (uA S 5 (setB (S.1 5) n (tellB (S.1 0) n (hasB (matI (mw (S.1 0))))))) 15 (nI 0)) hW ⟨rfl, rfl, rfl, rfl, rfl, rfl, rfl, rfl, rfl, rfl, rfl, rfl, rfl, rfl, rfl, rfl, rfl⟩
  exact r_iret X hL rfl rfl dX5_toldByPairs_13 (by omega) (by omega) ⟨uS (uA S 5 (setB (S.1 5) n (tellB (S.1 0) n (hasB (matI (mw (S.1 0))))))) 15 (nI 0), AP.mk (t := 0) (v := some (.int (nI (cnt (tellB (S.1 0) n (hasB (matI (mw (S.1 0))))) n)))) (X := S) rfl ⟨rfl, rfl, rfl, rfl, rfl, rfl, rfl, rfl⟩ rfl rfl, hW, hO⟩
theorem vb_X5_toldByPairs : VB yX5_toldByPairs cX5_toldByPairs 1 (some .int) 0 := ⟨q2120, q2121, q111, q2122, ⟨by decide, by decide, by decide +kernel⟩⟩

set_option maxRecDepth 100000 in
set_option maxHeartbeats 4000000 in
theorem ct_X5_toldBySums (l : Launch) (g : GT) (o n : Nat) (S : MS) (hN : S.1 0 160 = nI n) (hn : n ≤ 40) : Ct l g yX5_toldBySums cX5_toldBySums 1 (some .int) 7 0 0 [.ref o] (MW g o S) (fun r H H1 => ∃ S1, AP S1 (q_ S (nI (cnt (tellB (S.1 0) n (hasB (matI (mw (S.1 0))))) n))) r ∧ MW g o S1 H1 ∧ Off o H H1) := by
  refine Ct.of (by decide) (Nat.le_of_ble_eq_true rfl) ?_
  intro p e s m args below meth c X hP ls hl
  have hx := X.1
  have hb := X.2.1
  have hKV := X.2.2.2.2.2.2.2.1.1
  have hL : ∀ q ∈ ([] : List Loc), gLo g ≤ q.base := fun _ h => by cases h
  have hl : lv_has ls 1 [(0, .ref o)] := hl
  have hW : MW g o S s.heap := hP
  have hO : Off o s.heap s.heap := Off.rfl'
  refine lv_aload_n hx hb dX5_toldBySums_0 rfl (lv_at hl 0 rfl) ?_
  refine lv_iconst (v := nI 0) hx hb dX5_toldBySums_1 (by decide) ?_
  refine mp_38 X rfl hL hW dX5_toldBySums_2 (fun H locs hL hW hO1 => ?_)
  have hO := hO.trans hO1
  have hW := MW.cast (S1 := uS S 15 (nI 0)) hW ⟨rfl, rfl, rfl, rfl, rfl, rfl, rfl, rfl, rfl, rfl, rfl, rfl, rfl, rfl, rfl, rfl, rfl⟩
  refine lv_aload_n hx hb dX5_toldBySums_5 rfl (lv_at hl 0 rfl) ?_
  refine lv_aload_n hx hb dX5_toldBySums_6 rfl (lv_at hl 0 rfl) ?_
  refine Cp.callV (v := .int (matI (mw (S.1 0)))) (ct_X5_mattering l g o (uS S 15 (nI 0)) ) X hL hl vb_X5_mattering q1927 (hW.2.1.recv hKV rfl) rfl rfl (Nat.le_of_ble_eq_true rfl) dX5_toldBySums_7 ⟨Nat.le_of_ble_eq_true rfl, Nat.le_of_ble_eq_true rfl⟩ (by omega) (by omega) hW (fun locs hL => ?_)
  refine Ct.callV (ct_X5_tell l g o n (uS S 15 (nI 0)) (matI (mw (S.1 0))) hN hn) X hL hl vb_X5_tell q1935 (hW.2.1.recv hKV rfl) rfl rfl (Nat.le_of_ble_eq_true rfl) dX5_toldBySums_10 ⟨Nat.le_of_ble_eq_true rfl, Nat.le_of_ble_eq_true rfl⟩ (by omega) (by omega) hW (fun r H1 locs hL hp => ?_)
  obtain ⟨rfl, hW, hO1⟩ := hp
  have hO := hO.trans hO1
  have hW := MW.cast (S1 := uS (uA S 5 (setB (S.1 5) n (tellB (S.1 0) n (hasB (matI (mw (S.1 0))))))) 15 (nI 0)) hW ⟨rfl, rfl, rfl, rfl, rfl, rfl, rfl, rfl, rfl, rfl, rfl, rfl, rfl, rfl, rfl, rfl, rfl⟩
  exact r_iret X hL rfl rfl dX5_toldBySums_13 (by omega) (by omega) ⟨uS (uA S 5 (setB (S.1 5) n (tellB (S.1 0) n (hasB (matI (mw (S.1 0))))))) 15 (nI 0), AP.mk (t := 0) (v := some (.int (nI (cnt (tellB (S.1 0) n (hasB (matI (mw (S.1 0))))) n)))) (X := S) rfl ⟨rfl, rfl, rfl, rfl, rfl, rfl, rfl, rfl⟩ rfl rfl, hW, hO⟩
theorem vb_X5_toldBySums : VB yX5_toldBySums cX5_toldBySums 1 (some .int) 0 := ⟨q2124, q2125, q111, q2126, ⟨by decide, by decide, by decide +kernel⟩⟩

set_option maxRecDepth 100000 in
set_option maxHeartbeats 4000000 in
theorem ct_X5_toldAt (l : Launch) (g : GT) (o n : Nat) (S : MS) (x : Int32) (hN : S.1 0 160 = nI n) (hn : n ≤ 40) : Ct l g yX5_toldAt cX5_toldAt 4 (some .int) 7 0 0 [.ref o, .int x] (MW g o S) (fun r H H1 => ∃ S1, AP S1 (s_fst S (fstI (fun k => tellB (S.1 0) n (hasB (matI (mw (S.1 0)))) k && decide (nI (cnt (tellB (S.1 0) n (hasB (matI (mw (S.1 0))))) k) = x)) n)) r ∧ MW g o S1 H1 ∧ Off o H H1) := by
  refine Ct.of (by decide) (Nat.le_of_ble_eq_true rfl) ?_
  intro p e s m args below meth c X hP ls hl
  have hx := X.1
  have hb := X.2.1
  have hKV := X.2.2.2.2.2.2.2.1.1
  have hL : ∀ q ∈ ([] : List Loc), gLo g ≤ q.base := fun _ h => by cases h
  have hl : lv_has ls 4 [(0, .ref o), (1, .int x)] := hl
  have hW : MW g o S s.heap := hP
  have hO : Off o s.heap s.heap := Off.rfl'
  refine lv_aload_n hx hb dX5_toldAt_0 rfl (lv_at hl 0 rfl) ?_
  refine lv_iconst (v := nI 0) hx hb dX5_toldAt_1 (by decide) ?_
  refine mp_38 X rfl hL hW dX5_toldAt_2 (fun H locs hL hW hO1 => ?_)
  have hO := hO.trans hO1
  have hW := MW.cast (S1 := uS S 15 (nI 0)) hW ⟨rfl, rfl, rfl, rfl, rfl, rfl, rfl, rfl, rfl, rfl, rfl, rfl, rfl, rfl, rfl, rfl, rfl⟩
  refine lv_aload_n hx hb dX5_toldAt_5 rfl (lv_at hl 0 rfl) ?_
  refine lv_aload_n hx hb dX5_toldAt_6 rfl (lv_at hl 0 rfl) ?_
  refine Cp.callV (v := .int (matI (mw (S.1 0)))) (ct_X5_mattering l g o (uS S 15 (nI 0)) ) X hL hl vb_X5_mattering q1927 (hW.2.1.recv hKV rfl) rfl rfl (Nat.le_of_ble_eq_true rfl) dX5_toldAt_7 ⟨Nat.le_of_ble_eq_true rfl, Nat.le_of_ble_eq_true rfl⟩ (by omega) (by omega) hW (fun locs hL => ?_)
  refine Ct.callV (ct_X5_tell l g o n (uS S 15 (nI 0)) (matI (mw (S.1 0))) hN hn) X hL hl vb_X5_tell q1935 (hW.2.1.recv hKV rfl) rfl rfl (Nat.le_of_ble_eq_true rfl) dX5_toldAt_10 ⟨Nat.le_of_ble_eq_true rfl, Nat.le_of_ble_eq_true rfl⟩ (by omega) (by omega) hW (fun r H1 locs hL hp => ?_)
  obtain ⟨rfl, hW, hO1⟩ := hp
  have hO := hO.trans hO1
  have hW := MW.cast (S1 := uS (uA S 5 (setB (S.1 5) n (tellB (S.1 0) n (hasB (matI (mw (S.1 0))))))) 15 (nI 0)) hW ⟨rfl, rfl, rfl, rfl, rfl, rfl, rfl, rfl, rfl, rfl, rfl, rfl, rfl, rfl, rfl, rfl, rfl⟩
  refine lv_pop hx hb dX5_toldAt_13 rfl ?_
  refine lv_iconst (v := nI 0) hx hb dX5_toldAt_14 (by decide) ?_
  refine lv_istore_n (lv' := [(2, .int _), (0, .ref _), (1, .int _)]) hx hb dX5_toldAt_15 rfl hl (by decide) rfl (fun ls hl => ?_)
  refine lv_iconst (v := nI 0) hx hb dX5_toldAt_16 (by decide) ?_
  refine lv_istore_n (lv' := [(3, .int _), (2, .int _), (0, .ref _), (1, .int _)]) hx hb dX5_toldAt_17 rfl hl (by decide) rfl (fun ls hl => ?_)
  have L18 : ∀ (fuel : Nat) (v k : Nat), n - k < fuel → (fstI (fun k => tellB (S.1 0) n (hasB (matI (mw (S.1 0)))) k && decide (nI (cnt (tellB (S.1 0) n (hasB (matI (mw (S.1 0))))) k) = x)) k = (-1)) → (v = cnt (tellB (S.1 0) n (hasB (matI (mw (S.1 0))))) k) → (k ≤ n) → ∀ (locs : List Loc), (∀ q ∈ locs, gLo g ≤ q.base) → ∀ (ls : Array Slot), lv_has ls 4 [(0, .ref o), (1, .int x), (2, .int (nI v)), (3, .int (nI k))] → W p l e (rmL 7 0 0) s m args below meth c H1 locs 0 0 (MQ below (Qcg (fun r H H1 => ∃ S1, AP S1 (s_fst S (fstI (fun k => tellB (S.1 0) n (hasB (matI (mw (S.1 0)))) k && decide (nI (cnt (tellB (S.1 0) n (hasB (matI (mw (S.1 0))))) k) = x)) n)) r ∧ MW g o S1 H1 ∧ Off o H H1)) args s 0 0 (fre g)) (F0 m 18 ls []) := by
    intro fuel
    induction fuel with
    | zero => intro v k hfu; exact absurd hfu (Nat.not_lt_zero _)
    | succ fuel ih18 =>
      intro v k hfu h0 hv hk  locs hL ls hl
      refine lv_iload_n hx hb dX5_toldAt_18 rfl (lv_at hl 3 rfl) ?_
      refine lv_aload_n hx hb dX5_toldAt_19 rfl (lv_at hl 0 rfl) ?_
      refine mg_7 X rfl hW dX5_toldAt_20 ?_
      refine lv_sipush (v := nI 160) hx hb dX5_toldAt_23 (by decide) ?_
      refine m_ld (v := (nI n)) X hW 0 (by decide) rfl 160 rfl (by decide) (show (S.1 0) 160 = (nI n) from hN) dX5_toldAt_26 ?_
      refine n_icmp_ge (tgt := 69) X dX5_toldAt_27 (by decide) (by omega) (by omega) (fun c_27 => ?_) (fun c_27 => ?_)
      ·
        refine lv_aload_n hx hb dX5_toldAt_69 rfl (lv_at hl 0 rfl) ?_
        refine lv_iconst (v := nI 1) hx hb dX5_toldAt_70 (by decide) ?_
        refine Ct.callV (ct_X5_fails l g o (uS (uA S 5 (setB (S.1 5) n (tellB (S.1 0) n (hasB (matI (mw (S.1 0))))))) 15 (nI 0)) (nI 1) ) X hL hl vb_X5_fails q1904 (hW.2.1.recv hKV rfl) rfl rfl (Nat.le_of_ble_eq_true rfl) dX5_toldAt_71 ⟨Nat.le_of_ble_eq_true rfl, Nat.le_of_ble_eq_true rfl⟩ (by omega) (by omega) hW (fun r H1 locs hL hp => ?_)
        obtain ⟨rfl, hW, hO1⟩ := hp
        have hO := hO.trans hO1
        have hW := MW.cast (S1 := uS (uA S 5 (setB (S.1 5) n (tellB (S.1 0) n (hasB (matI (mw (S.1 0))))))) 15 (nI 1)) hW ⟨rfl, rfl, rfl, rfl, rfl, rfl, rfl, rfl, rfl, rfl, rfl, rfl, rfl, rfl, rfl, rfl, rfl⟩
        exact r_iret X hL rfl rfl dX5_toldAt_74 (by omega) (by omega) ⟨uS (uA S 5 (setB (S.1 5) n (tellB (S.1 0) n (hasB (matI (mw (S.1 0))))))) 15 (nI 1), AP.mk (t := 1) (v := some (.int (nI 0))) (X := S) (s_fst_n (by have e : k = n := (by omega); subst e; exact h0)) ⟨rfl, rfl, rfl, rfl, rfl, rfl, rfl, rfl⟩ rfl rfl, hW, hO⟩
      ·
        refine lv_aload_n hx hb dX5_toldAt_30 rfl (lv_at hl 0 rfl) ?_
        refine mg_25 X rfl hW dX5_toldAt_31 ?_
        refine lv_iload_n hx hb dX5_toldAt_34 rfl (lv_at hl 3 rfl) ?_
        refine m_zld (v := (bI (tellB (S.1 0) n (hasB (matI (mw (S.1 0)))) k))) X hW 5 (by decide) rfl k rfl (by show k < 41; omega) (show (setB (S.1 5) n (tellB (S.1 0) n (hasB (matI (mw (S.1 0)))))) k = (bI (tellB (S.1 0) n (hasB (matI (mw (S.1 0)))) k)) from (setB_l (by omega))) dX5_toldAt_35 ?_
        refine b_ifeq (tgt := 46) X dX5_toldAt_36 (by decide) (fun c_36 => ?_) (fun c_36 => ?_)
        ·
          refine lv_iload_n hx hb dX5_toldAt_46 rfl (lv_at hl 2 rfl) ?_
          refine lv_aload_n hx hb dX5_toldAt_47 rfl (lv_at hl 0 rfl) ?_
          refine mg_25 X rfl hW dX5_toldAt_48 ?_
          refine lv_iload_n hx hb dX5_toldAt_51 rfl (lv_at hl 3 rfl) ?_
          refine m_zld (v := (bI (tellB (S.1 0) n (hasB (matI (mw (S.1 0)))) k))) X hW 5 (by decide) rfl k rfl (by show k < 41; omega) (show (setB (S.1 5) n (tellB (S.1 0) n (hasB (matI (mw (S.1 0)))))) k = (bI (tellB (S.1 0) n (hasB (matI (mw (S.1 0)))) k)) from (setB_l (by omega))) dX5_toldAt_52 ?_
          refine b_ifeq (tgt := 60) X dX5_toldAt_53 (by decide) (fun c_53 => ?_) (fun c_53 => ?_)
          ·
            refine lv_iconst (v := nI 0) hx hb dX5_toldAt_60 (by decide) ?_
            refine n_iadd X dX5_toldAt_61 ?_
            refine lv_istore_n (lv' := [(2, .int _), (0, .ref _), (1, .int _), (3, .int _)]) hx hb dX5_toldAt_62 rfl hl (by decide) rfl (fun ls hl => ?_)
            refine lv_iinc (v := nI (k + 1)) (lv' := [(3, .int _), (2, .int _), (0, .ref _), (1, .int _)]) hx hb dX5_toldAt_63 hl (k := 3) rfl (nI_iinc _ 1 rfl) (by decide) rfl (fun ls hl => ?_)
            refine lv_goto (tgt := 18) hx hb dX5_toldAt_66 (by decide) ?_
            exact ih18 _ _ (by omega) (fstI_s h0 (by first | (simp [c_36]; done) | (rw [← hv]; simp [c_41]; done))) (by first | exact cnt_t hv c_53 | exact cnt_f hv c_53) (by omega) _ hL ls (lv_sub hl [2, 3, 1, 0] rfl)
          ·
            refine lv_iconst (v := nI 1) hx hb dX5_toldAt_56 (by decide) ?_
            refine lv_goto (tgt := 61) hx hb dX5_toldAt_57 (by decide) ?_
            refine n_iadd X dX5_toldAt_61 ?_
            refine lv_istore_n (lv' := [(2, .int _), (0, .ref _), (1, .int _), (3, .int _)]) hx hb dX5_toldAt_62 rfl hl (by decide) rfl (fun ls hl => ?_)
            refine lv_iinc (v := nI (k + 1)) (lv' := [(3, .int _), (2, .int _), (0, .ref _), (1, .int _)]) hx hb dX5_toldAt_63 hl (k := 3) rfl (nI_iinc _ 1 rfl) (by decide) rfl (fun ls hl => ?_)
            refine lv_goto (tgt := 18) hx hb dX5_toldAt_66 (by decide) ?_
            exact ih18 _ _ (by omega) (fstI_s h0 (by first | (simp [c_36]; done) | (rw [← hv]; simp [c_41]; done))) (by first | exact cnt_t hv c_53 | exact cnt_f hv c_53) (by omega) _ hL ls (lv_sub hl [2, 3, 1, 0] rfl)
        ·
          refine lv_iload_n hx hb dX5_toldAt_39 rfl (lv_at hl 2 rfl) ?_
          refine lv_iload_n hx hb dX5_toldAt_40 rfl (lv_at hl 1 rfl) ?_
          refine lv_icmp_ne (tgt := 46) hx hb dX5_toldAt_41 (by decide) (fun c_41 => ?_) (fun c_41 => ?_)
          ·
            refine lv_iload_n hx hb dX5_toldAt_46 rfl (lv_at hl 2 rfl) ?_
            refine lv_aload_n hx hb dX5_toldAt_47 rfl (lv_at hl 0 rfl) ?_
            refine mg_25 X rfl hW dX5_toldAt_48 ?_
            refine lv_iload_n hx hb dX5_toldAt_51 rfl (lv_at hl 3 rfl) ?_
            refine m_zld (v := (bI (tellB (S.1 0) n (hasB (matI (mw (S.1 0)))) k))) X hW 5 (by decide) rfl k rfl (by show k < 41; omega) (show (setB (S.1 5) n (tellB (S.1 0) n (hasB (matI (mw (S.1 0)))))) k = (bI (tellB (S.1 0) n (hasB (matI (mw (S.1 0)))) k)) from (setB_l (by omega))) dX5_toldAt_52 ?_
            refine b_ifeq (tgt := 60) X dX5_toldAt_53 (by decide) (fun c_53 => ?_) (fun c_53 => ?_)
            ·
              refine lv_iconst (v := nI 0) hx hb dX5_toldAt_60 (by decide) ?_
              refine n_iadd X dX5_toldAt_61 ?_
              refine lv_istore_n (lv' := [(2, .int _), (0, .ref _), (1, .int _), (3, .int _)]) hx hb dX5_toldAt_62 rfl hl (by decide) rfl (fun ls hl => ?_)
              refine lv_iinc (v := nI (k + 1)) (lv' := [(3, .int _), (2, .int _), (0, .ref _), (1, .int _)]) hx hb dX5_toldAt_63 hl (k := 3) rfl (nI_iinc _ 1 rfl) (by decide) rfl (fun ls hl => ?_)
              refine lv_goto (tgt := 18) hx hb dX5_toldAt_66 (by decide) ?_
              exact ih18 _ _ (by omega) (fstI_s h0 (by first | (simp [c_36]; done) | (rw [← hv]; simp [c_41]; done))) (by first | exact cnt_t hv c_53 | exact cnt_f hv c_53) (by omega) _ hL ls (lv_sub hl [2, 3, 1, 0] rfl)
            ·
              refine lv_iconst (v := nI 1) hx hb dX5_toldAt_56 (by decide) ?_
              refine lv_goto (tgt := 61) hx hb dX5_toldAt_57 (by decide) ?_
              refine n_iadd X dX5_toldAt_61 ?_
              refine lv_istore_n (lv' := [(2, .int _), (0, .ref _), (1, .int _), (3, .int _)]) hx hb dX5_toldAt_62 rfl hl (by decide) rfl (fun ls hl => ?_)
              refine lv_iinc (v := nI (k + 1)) (lv' := [(3, .int _), (2, .int _), (0, .ref _), (1, .int _)]) hx hb dX5_toldAt_63 hl (k := 3) rfl (nI_iinc _ 1 rfl) (by decide) rfl (fun ls hl => ?_)
              refine lv_goto (tgt := 18) hx hb dX5_toldAt_66 (by decide) ?_
              exact ih18 _ _ (by omega) (fstI_s h0 (by first | (simp [c_36]; done) | (rw [← hv]; simp [c_41]; done))) (by first | exact cnt_t hv c_53 | exact cnt_f hv c_53) (by omega) _ hL ls (lv_sub hl [2, 3, 1, 0] rfl)
          ·
            refine lv_iload_n hx hb dX5_toldAt_44 rfl (lv_at hl 3 rfl) ?_
            exact r_iret X hL rfl rfl dX5_toldAt_45 (by omega) (by omega) ⟨uS (uA S 5 (setB (S.1 5) n (tellB (S.1 0) n (hasB (matI (mw (S.1 0))))))) 15 (nI 0), AP.mk (t := 0) (v := some (.int (nI k))) (X := S) (s_fst_k (by omega) (fstI_k (by omega) h0 (by rw [← hv]; simpa [c_36] using c_41) n (by omega))) ⟨rfl, rfl, rfl, rfl, rfl, rfl, rfl, rfl⟩ rfl rfl, hW, hO⟩
  exact L18 (n + 1) 0 0 (by omega) rfl rfl (by omega) _ hL ls (lv_sub hl [2, 3, 1, 0] rfl)
theorem vb_X5_toldAt : VB yX5_toldAt cX5_toldAt 4 (some .int) 1 := ⟨q2128, q2129, q111, q2130, ⟨by decide, by decide, by decide +kernel⟩⟩

set_option maxRecDepth 100000 in
set_option maxHeartbeats 4000000 in
theorem ct_X5_toldOn (l : Launch) (g : GT) (o n : Nat) (S : MS) (v : Int32) (hN : S.1 0 160 = nI n) (hn : n ≤ 40) : Ct l g yX5_toldOn cX5_toldOn 2 (some .int) 7 0 0 [.ref o, .int v] (MW g o S) (fun r H H1 => ∃ S1, AP S1 (s_bad S (!inB v (nI 1) (nI 15)) (nI (cnt (tellB (S.1 0) n (hasB (v &&& matI (mw (S.1 0))))) n))) r ∧ MW g o S1 H1 ∧ Off o H H1) := by
  refine Ct.of (by decide) (Nat.le_of_ble_eq_true rfl) ?_
  intro p e s m args below meth c X hP ls hl
  have hx := X.1
  have hb := X.2.1
  have hKV := X.2.2.2.2.2.2.2.1.1
  have hL : ∀ q ∈ ([] : List Loc), gLo g ≤ q.base := fun _ h => by cases h
  have hl : lv_has ls 2 [(0, .ref o), (1, .int v)] := hl
  have hW : MW g o S s.heap := hP
  have hO : Off o s.heap s.heap := Off.rfl'
  refine lv_aload_n hx hb dX5_toldOn_0 rfl (lv_at hl 0 rfl) ?_
  refine lv_iconst (v := nI 0) hx hb dX5_toldOn_1 (by decide) ?_
  refine mp_38 X rfl hL hW dX5_toldOn_2 (fun H locs hL hW hO1 => ?_)
  have hO := hO.trans hO1
  have hW := MW.cast (S1 := uS S 15 (nI 0)) hW ⟨rfl, rfl, rfl, rfl, rfl, rfl, rfl, rfl, rfl, rfl, rfl, rfl, rfl, rfl, rfl, rfl, rfl⟩
  refine lv_iload_n hx hb dX5_toldOn_5 rfl (lv_at hl 1 rfl) ?_
  refine lv_iconst (v := nI 1) hx hb dX5_toldOn_6 (by decide) ?_
  refine lv_bipush (v := nI 15) hx hb dX5_toldOn_7 (by decide) ?_
  refine Cp.callS (v := .int (bI (inB v (nI 1) (nI 15)))) (ct_X5_in l g v (nI 1) (nI 15) ) X hL hl sb_X5_in q1885 rfl rfl (Nat.le_of_ble_eq_true rfl) dX5_toldOn_9 ⟨Nat.le_of_ble_eq_true rfl, Nat.le_of_ble_eq_true rfl⟩ (by omega) (by omega) trivial (fun locs hL => ?_)
  refine b_ifne (tgt := 23) X dX5_toldOn_12 (by decide) (fun c_12 => ?_) (fun c_12 => ?_)
  ·
    refine lv_aload_n hx hb dX5_toldOn_23 rfl (lv_at hl 0 rfl) ?_
    refine lv_iload_n hx hb dX5_toldOn_24 rfl (lv_at hl 1 rfl) ?_
    refine lv_aload_n hx hb dX5_toldOn_25 rfl (lv_at hl 0 rfl) ?_
    refine Cp.callV (v := .int (matI (mw (S.1 0)))) (ct_X5_mattering l g o (uS S 15 (nI 0)) ) X hL hl vb_X5_mattering q1927 (hW.2.1.recv hKV rfl) rfl rfl (Nat.le_of_ble_eq_true rfl) dX5_toldOn_26 ⟨Nat.le_of_ble_eq_true rfl, Nat.le_of_ble_eq_true rfl⟩ (by omega) (by omega) hW (fun locs hL => ?_)
    refine lv_iand hx hb dX5_toldOn_29 ?_
    refine Ct.callV (ct_X5_tell l g o n (uS S 15 (nI 0)) (v &&& (matI (mw (S.1 0)))) hN hn) X hL hl vb_X5_tell q1935 (hW.2.1.recv hKV rfl) rfl rfl (Nat.le_of_ble_eq_true rfl) dX5_toldOn_30 ⟨Nat.le_of_ble_eq_true rfl, Nat.le_of_ble_eq_true rfl⟩ (by omega) (by omega) hW (fun r H1 locs hL hp => ?_)
    obtain ⟨rfl, hW, hO1⟩ := hp
    have hO := hO.trans hO1
    have hW := MW.cast (S1 := uS (uA S 5 (setB (S.1 5) n (tellB (S.1 0) n (hasB (v &&& (matI (mw (S.1 0)))))))) 15 (nI 0)) hW ⟨rfl, rfl, rfl, rfl, rfl, rfl, rfl, rfl, rfl, rfl, rfl, rfl, rfl, rfl, rfl, rfl, rfl⟩
    exact r_iret X hL rfl rfl dX5_toldOn_33 (by omega) (by omega) ⟨uS (uA S 5 (setB (S.1 5) n (tellB (S.1 0) n (hasB (v &&& (matI (mw (S.1 0)))))))) 15 (nI 0), AP.mk (t := 0) (v := some (.int (nI (cnt (tellB (S.1 0) n (hasB (v &&& (matI (mw (S.1 0)))))) n)))) (X := S) (by simp [s_bad, x_, q_, vI, bI_T, bI_F, c_12]) ⟨rfl, rfl, rfl, rfl, rfl, rfl, rfl, rfl⟩ rfl rfl, hW, hO⟩
  ·
    refine lv_aload_n hx hb dX5_toldOn_15 rfl (lv_at hl 0 rfl) ?_
    refine lv_iconst (v := nI 1) hx hb dX5_toldOn_16 (by decide) ?_
    refine Ct.callV (ct_X5_fails l g o (uS S 15 (nI 0)) (nI 1) ) X hL hl vb_X5_fails q1904 (hW.2.1.recv hKV rfl) rfl rfl (Nat.le_of_ble_eq_true rfl) dX5_toldOn_17 ⟨Nat.le_of_ble_eq_true rfl, Nat.le_of_ble_eq_true rfl⟩ (by omega) (by omega) hW (fun r H1 locs hL hp => ?_)
    obtain ⟨rfl, hW, hO1⟩ := hp
    have hO := hO.trans hO1
    have hW := MW.cast (S1 := uS S 15 (nI 1)) hW ⟨rfl, rfl, rfl, rfl, rfl, rfl, rfl, rfl, rfl, rfl, rfl, rfl, rfl, rfl, rfl, rfl, rfl⟩
    refine lv_goto (tgt := 33) hx hb dX5_toldOn_20 (by decide) ?_
    exact r_iret X hL rfl rfl dX5_toldOn_33 (by omega) (by omega) ⟨uS S 15 (nI 1), AP.mk (t := 1) (v := some (.int (nI 0))) (X := S) (by simp [s_bad, x_, q_, vI, bI_T, bI_F, c_12]) ⟨rfl, rfl, rfl, rfl, rfl, rfl, rfl, rfl⟩ rfl rfl, hW, hO⟩
theorem vb_X5_toldOn : VB yX5_toldOn cX5_toldOn 2 (some .int) 1 := ⟨q2153, q2154, q111, q2155, ⟨by decide, by decide, by decide +kernel⟩⟩

set_option maxRecDepth 100000 in
set_option maxHeartbeats 4000000 in
theorem ct_X5_setsFor (l : Launch) (g : GT) (o n : Nat) (S : MS) (i : Int32) (hN : S.1 0 160 = nI n) (hn : n ≤ 40) : Ct l g yX5_setsFor cX5_setsFor 6 (some .int) 7 0 0 [.ref o, .int i] (MW g o S) (fun r H H1 => ∃ S1, AP S1 (s_one S n i (fun i => nI (cnt (fun z => tellB (S.1 0) n (hasB (nI (z + 1) &&& matI (mw (S.1 0)))) i) 15))) r ∧ MW g o S1 H1 ∧ Off o H H1) := by
  refine Ct.of (by decide) (Nat.le_of_ble_eq_true rfl) ?_
  intro p e s m args below meth c X hP ls hl
  have hx := X.1
  have hb := X.2.1
  have hKV := X.2.2.2.2.2.2.2.1.1
  have hL : ∀ q ∈ ([] : List Loc), gLo g ≤ q.base := fun _ h => by cases h
  have hl : lv_has ls 6 [(0, .ref o), (1, .int i)] := hl
  have hW : MW g o S s.heap := hP
  have hO : Off o s.heap s.heap := Off.rfl'
  refine lv_aload_n hx hb dX5_setsFor_0 rfl (lv_at hl 0 rfl) ?_
  refine lv_iconst (v := nI 0) hx hb dX5_setsFor_1 (by decide) ?_
  refine mp_38 X rfl hL hW dX5_setsFor_2 (fun H locs hL hW hO1 => ?_)
  have hO := hO.trans hO1
  have hW := MW.cast (S1 := uS S 15 (nI 0)) hW ⟨rfl, rfl, rfl, rfl, rfl, rfl, rfl, rfl, rfl, rfl, rfl, rfl, rfl, rfl, rfl, rfl, rfl⟩
  refine lv_aload_n hx hb dX5_setsFor_5 rfl (lv_at hl 0 rfl) ?_
  refine lv_iload_n hx hb dX5_setsFor_6 rfl (lv_at hl 1 rfl) ?_
  refine Cp.callV (v := .int (bI (noB n i))) (ct_X5_isNone l g o n (uS S 15 (nI 0)) i hN hn) X hL hl vb_X5_isNone q1900 (hW.2.1.recv hKV rfl) rfl rfl (Nat.le_of_ble_eq_true rfl) dX5_setsFor_7 ⟨Nat.le_of_ble_eq_true rfl, Nat.le_of_ble_eq_true rfl⟩ (by omega) (by omega) hW (fun locs hL => ?_)
  refine b_ifeq (tgt := 19) X dX5_setsFor_10 (by decide) (fun c_10 => ?_) (fun c_10 => ?_)
  ·
    obtain ⟨hic, hil⟩ := noB_nat hn c_10
    refine lv_iconst (v := nI 0) hx hb dX5_setsFor_19 (by decide) ?_
    refine lv_istore_n (lv' := [(2, .int _), (0, .ref _), (1, .int _)]) hx hb dX5_setsFor_20 rfl hl (by decide) rfl (fun ls hl => ?_)
    refine lv_iconst (v := nI 1) hx hb dX5_setsFor_21 (by decide) ?_
    refine lv_istore_n (lv' := [(3, .int _), (2, .int _), (0, .ref _), (1, .int _)]) hx hb dX5_setsFor_22 rfl hl (by decide) rfl (fun ls hl => ?_)
    have L23 : ∀ (fuel : Nat) (v z : Nat), 15 - z < fuel → (v = cnt (fun z => tellB (S.1 0) n (hasB (nI (z + 1) &&& matI (mw (S.1 0)))) i.toNatClampNeg) z) → (z ≤ 15) → ∀ (locs : List Loc), (∀ q ∈ locs, gLo g ≤ q.base) → ∀ (ls : Array Slot), lv_has ls 6 [(0, .ref o), (1, .int i), (2, .int (nI v)), (3, .int (nI (z + 1)))] → W p l e (rmL 7 0 0) s m args below meth c H locs 0 0 (MQ below (Qcg (fun r H H1 => ∃ S1, AP S1 (s_one S n i (fun i => nI (cnt (fun z => tellB (S.1 0) n (hasB (nI (z + 1) &&& matI (mw (S.1 0)))) i) 15))) r ∧ MW g o S1 H1 ∧ Off o H H1)) args s 0 0 (fre g)) (F0 m 23 ls []) := by
      intro fuel
      induction fuel with
      | zero => intro v z hfu; exact absurd hfu (Nat.not_lt_zero _)
      | succ fuel ih23 =>
        intro v z hfu hv hz  locs hL ls hl
        refine lv_iload_n hx hb dX5_setsFor_23 rfl (lv_at hl 3 rfl) ?_
        refine lv_bipush (v := nI 16) hx hb dX5_setsFor_24 (by decide) ?_
        refine n_icmp_ge (tgt := 114) X dX5_setsFor_26 (by decide) (by omega) (by omega) (fun c_26 => ?_) (fun c_26 => ?_)
        ·
          refine lv_iload_n hx hb dX5_setsFor_114 rfl (lv_at hl 2 rfl) ?_
          exact r_iret X hL rfl rfl dX5_setsFor_115 (by omega) (by omega) ⟨uS S 15 (nI 0), AP.mk (t := 0) (v := some (.int (nI (cnt (fun z => tellB (S.1 0) n (hasB (nI (z + 1) &&& matI (mw (S.1 0)))) i.toNatClampNeg) 15)))) (X := S) (by simp [s_one, q_, vI, c_10]) ⟨rfl, rfl, rfl, rfl, rfl, rfl, rfl, rfl⟩ rfl (by rw [hv, show z = 15 by omega]), hW, hO⟩
        ·
          refine lv_aload_n hx hb dX5_setsFor_29 rfl (lv_at hl 0 rfl) ?_
          refine lv_iload_n hx hb dX5_setsFor_30 rfl (lv_at hl 1 rfl) ?_
          refine W.stk (w := (nI i.toNatClampNeg)) hic ?_
          refine Cp.callV (v := .int (bI (cB (S.1 0) i.toNatClampNeg))) (ct_X5_counts l g o i.toNatClampNeg (uS S 15 (nI 0)) (by omega)) X hL hl vb_X5_counts q1939 (hW.2.1.recv hKV rfl) rfl rfl (Nat.le_of_ble_eq_true rfl) dX5_setsFor_31 ⟨Nat.le_of_ble_eq_true rfl, Nat.le_of_ble_eq_true rfl⟩ (by omega) (by omega) hW (fun locs hL => ?_)
          refine lv_istore (lv' := [(4, .int _), (0, .ref _), (1, .int _), (2, .int _), (3, .int _)]) hx hb dX5_setsFor_34 hl (by decide) rfl (fun ls hl => ?_)
          refine lv_iconst (v := nI 0) hx hb dX5_setsFor_36 (by decide) ?_
          refine lv_istore (lv' := [(5, .int _), (4, .int _), (0, .ref _), (1, .int _), (2, .int _), (3, .int _)]) hx hb dX5_setsFor_37 hl (by decide) rfl (fun ls hl => ?_)
          have C95 : ∀ (b : Bool), (b = (fun z => tellB (S.1 0) n (hasB (nI (z + 1) &&& matI (mw (S.1 0)))) i.toNatClampNeg) z) → ∀ (locs : List Loc), (∀ q ∈ locs, gLo g ≤ q.base) → ∀ (ls : Array Slot), lv_has ls 6 [(0, .ref o), (1, .int i), (2, .int (nI v)), (3, .int (nI (z + 1))), (4, .int (bI b))] → W p l e (rmL 7 0 0) s m args below meth c H locs 0 0 (MQ below (Qcg (fun r H H1 => ∃ S1, AP S1 (s_one S n i (fun i => nI (cnt (fun z => tellB (S.1 0) n (hasB (nI (z + 1) &&& matI (mw (S.1 0)))) i) 15))) r ∧ MW g o S1 H1 ∧ Off o H H1)) args s 0 0 (fre g)) (F0 m 95 ls []) := by
            intro b hb2  locs hL ls hl
            refine lv_iload_n hx hb dX5_setsFor_95 rfl (lv_at hl 2 rfl) ?_
            refine lv_iload hx hb dX5_setsFor_96 (lv_at hl 4 rfl) ?_
            subst hb2
            refine b_ifeq (tgt := 105) X dX5_setsFor_98 (by decide) (fun c_98 => ?_) (fun c_98 => ?_)
            ·
              refine lv_iconst (v := nI 0) hx hb dX5_setsFor_105 (by decide) ?_
              refine n_iadd X dX5_setsFor_106 ?_
              refine lv_istore_n (lv' := [(2, .int _), (0, .ref _), (1, .int _), (3, .int _), (4, .int _)]) hx hb dX5_setsFor_107 rfl hl (by decide) rfl (fun ls hl => ?_)
              refine lv_iinc (v := nI (z + 1 + 1)) (lv' := [(3, .int _), (2, .int _), (0, .ref _), (1, .int _), (4, .int _)]) hx hb dX5_setsFor_108 hl (k := 3) rfl (nI_iinc _ 1 rfl) (by decide) rfl (fun ls hl => ?_)
              refine lv_goto (tgt := 23) hx hb dX5_setsFor_111 (by decide) ?_
              exact ih23 _ _ (by omega) (by first | exact cnt_t hv c_98 | exact cnt_f hv c_98) (by omega) _ hL ls (lv_sub hl [2, 3, 1, 0] rfl)
            ·
              refine lv_iconst (v := nI 1) hx hb dX5_setsFor_101 (by decide) ?_
              refine lv_goto (tgt := 106) hx hb dX5_setsFor_102 (by decide) ?_
              refine n_iadd X dX5_setsFor_106 ?_
              refine lv_istore_n (lv' := [(2, .int _), (0, .ref _), (1, .int _), (3, .int _), (4, .int _)]) hx hb dX5_setsFor_107 rfl hl (by decide) rfl (fun ls hl => ?_)
              refine lv_iinc (v := nI (z + 1 + 1)) (lv' := [(3, .int _), (2, .int _), (0, .ref _), (1, .int _), (4, .int _)]) hx hb dX5_setsFor_108 hl (k := 3) rfl (nI_iinc _ 1 rfl) (by decide) rfl (fun ls hl => ?_)
              refine lv_goto (tgt := 23) hx hb dX5_setsFor_111 (by decide) ?_
              exact ih23 _ _ (by omega) (by first | exact cnt_t hv c_98 | exact cnt_f hv c_98) (by omega) _ hL ls (lv_sub hl [2, 3, 1, 0] rfl)
          have L39 : ∀ (fuel : Nat) (b : Bool) (k : Nat), n - k < fuel → (b = (cB (S.1 0) i.toNatClampNeg && allB (fun j => !cB (S.1 0) j || !eB (S.1 0) (hasB (nI (z + 1) &&& matI (mw (S.1 0)))) j i.toNatClampNeg) k)) → (k ≤ n) → ∀ (locs : List Loc), (∀ q ∈ locs, gLo g ≤ q.base) → ∀ (ls : Array Slot), lv_has ls 6 [(0, .ref o), (1, .int i), (2, .int (nI v)), (3, .int (nI (z + 1))), (4, .int (bI b)), (5, .int (nI k))] → W p l e (rmL 7 0 0) s m args below meth c H locs 0 0 (MQ below (Qcg (fun r H H1 => ∃ S1, AP S1 (s_one S n i (fun i => nI (cnt (fun z => tellB (S.1 0) n (hasB (nI (z + 1) &&& matI (mw (S.1 0)))) i) 15))) r ∧ MW g o S1 H1 ∧ Off o H H1)) args s 0 0 (fre g)) (F0 m 39 ls []) := by
            intro fuel
            induction fuel with
            | zero => intro b k hfu; exact absurd hfu (Nat.not_lt_zero _)
            | succ fuel ih39 =>
              intro b k hfu hb2 hk  locs hL ls hl
              refine lv_iload hx hb dX5_setsFor_39 (lv_at hl 5 rfl) ?_
              refine lv_aload_n hx hb dX5_setsFor_41 rfl (lv_at hl 0 rfl) ?_
              refine mg_7 X rfl hW dX5_setsFor_42 ?_
              refine lv_sipush (v := nI 160) hx hb dX5_setsFor_45 (by decide) ?_
              refine m_ld (v := (nI n)) X hW 0 (by decide) rfl 160 rfl (by decide) (show (S.1 0) 160 = (nI n) from hN) dX5_setsFor_48 ?_
              refine n_icmp_ge (tgt := 95) X dX5_setsFor_49 (by decide) (by omega) (by omega) (fun c_49 => ?_) (fun c_49 => ?_)
              ·
                exact C95 b (by rw [hb2, show k = n by omega]; rfl) _ hL ls (lv_sub hl [0, 1, 2, 3, 4] rfl)
              ·
                refine lv_iload hx hb dX5_setsFor_52 (lv_at hl 4 rfl) ?_
                refine b_ifeq (tgt := 95) X dX5_setsFor_54 (by decide) (fun c_54 => ?_) (fun c_54 => ?_)
                ·
                  exact C95 b (by rw [c_54]; exact (andB_f (hb2.symm.trans c_54) hk).symm) _ hL ls (lv_sub hl [0, 1, 2, 3, 4] rfl)
                ·
                  refine lv_aload_n hx hb dX5_setsFor_57 rfl (lv_at hl 0 rfl) ?_
                  refine lv_iload hx hb dX5_setsFor_58 (lv_at hl 5 rfl) ?_
                  refine Cp.callV (v := .int (bI (cB (S.1 0) k))) (ct_X5_counts l g o k (uS S 15 (nI 0)) (by omega)) X hL hl vb_X5_counts q1939 (hW.2.1.recv hKV rfl) rfl rfl (Nat.le_of_ble_eq_true rfl) dX5_setsFor_60 ⟨Nat.le_of_ble_eq_true rfl, Nat.le_of_ble_eq_true rfl⟩ (by omega) (by omega) hW (fun locs hL => ?_)
                  refine b_ifeq (tgt := 82) X dX5_setsFor_63 (by decide) (fun c_63 => ?_) (fun c_63 => ?_)
                  ·
                    refine lv_iconst (v := nI 1) hx hb dX5_setsFor_82 (by decide) ?_
                    refine lv_goto (tgt := 87) hx hb dX5_setsFor_83 (by decide) ?_
                    refine lv_istore (lv' := [(4, .int _), (0, .ref _), (1, .int _), (2, .int _), (3, .int _), (5, .int _)]) hx hb dX5_setsFor_87 hl (by decide) rfl (fun ls hl => ?_)
                    refine lv_iinc (v := nI (k + 1)) (lv' := [(5, .int _), (4, .int _), (0, .ref _), (1, .int _), (2, .int _), (3, .int _)]) hx hb dX5_setsFor_89 hl (k := 5) rfl (nI_iinc _ 1 rfl) (by decide) rfl (fun ls hl => ?_)
                    refine lv_goto (tgt := 39) hx hb dX5_setsFor_92 (by decide) ?_
                    exact ih39 true (k + 1) (by omega) (by rw [hb2] at c_54; rw [allB_1, ← Bool.and_assoc, c_54]; simp [c_10, c_26, c_49, c_54, c_63]) (by omega) _ hL ls (lv_sub hl [2, 3, 4, 5, 1, 0] rfl)
                  ·
                    refine lv_aload_n hx hb dX5_setsFor_66 rfl (lv_at hl 0 rfl) ?_
                    refine lv_iload hx hb dX5_setsFor_67 (lv_at hl 5 rfl) ?_
                    refine lv_iload_n hx hb dX5_setsFor_69 rfl (lv_at hl 1 rfl) ?_
                    refine W.stk (w := (nI i.toNatClampNeg)) hic ?_
                    refine lv_iload_n hx hb dX5_setsFor_70 rfl (lv_at hl 3 rfl) ?_
                    refine lv_aload_n hx hb dX5_setsFor_71 rfl (lv_at hl 0 rfl) ?_
                    refine Cp.callV (v := .int (matI (mw (S.1 0)))) (ct_X5_mattering l g o (uS S 15 (nI 0)) ) X hL hl vb_X5_mattering q1927 (hW.2.1.recv hKV rfl) rfl rfl (Nat.le_of_ble_eq_true rfl) dX5_setsFor_72 ⟨Nat.le_of_ble_eq_true rfl, Nat.le_of_ble_eq_true rfl⟩ (by omega) (by omega) hW (fun locs hL => ?_)
                    refine lv_iand hx hb dX5_setsFor_75 ?_
                    refine Cp.callV (v := .int (bI (eB (S.1 0) (hasB ((nI (z + 1)) &&& (matI (mw (S.1 0))))) k i.toNatClampNeg))) (ct_X5_isBeyond l g o k i.toNatClampNeg (uS S 15 (nI 0)) ((nI (z + 1)) &&& (matI (mw (S.1 0)))) (by omega) (by omega)) X hL hl vb_X5_isBeyond q1943 (hW.2.1.recv hKV rfl) rfl rfl (Nat.le_of_ble_eq_true rfl) dX5_setsFor_76 ⟨Nat.le_of_ble_eq_true rfl, Nat.le_of_ble_eq_true rfl⟩ (by omega) (by omega) hW (fun locs hL => ?_)
                    refine b_ifne (tgt := 86) X dX5_setsFor_79 (by decide) (fun c_79 => ?_) (fun c_79 => ?_)
                    ·
                      refine lv_iconst (v := nI 0) hx hb dX5_setsFor_86 (by decide) ?_
                      refine lv_istore (lv' := [(4, .int _), (0, .ref _), (1, .int _), (2, .int _), (3, .int _), (5, .int _)]) hx hb dX5_setsFor_87 hl (by decide) rfl (fun ls hl => ?_)
                      refine lv_iinc (v := nI (k + 1)) (lv' := [(5, .int _), (4, .int _), (0, .ref _), (1, .int _), (2, .int _), (3, .int _)]) hx hb dX5_setsFor_89 hl (k := 5) rfl (nI_iinc _ 1 rfl) (by decide) rfl (fun ls hl => ?_)
                      refine lv_goto (tgt := 39) hx hb dX5_setsFor_92 (by decide) ?_
                      exact ih39 false (k + 1) (by omega) (by rw [hb2] at c_54; rw [allB_1, ← Bool.and_assoc, c_54]; simp [c_10, c_26, c_49, c_54, c_63, c_79]) (by omega) _ hL ls (lv_sub hl [2, 3, 4, 5, 1, 0] rfl)
                    ·
                      refine lv_iconst (v := nI 1) hx hb dX5_setsFor_82 (by decide) ?_
                      refine lv_goto (tgt := 87) hx hb dX5_setsFor_83 (by decide) ?_
                      refine lv_istore (lv' := [(4, .int _), (0, .ref _), (1, .int _), (2, .int _), (3, .int _), (5, .int _)]) hx hb dX5_setsFor_87 hl (by decide) rfl (fun ls hl => ?_)
                      refine lv_iinc (v := nI (k + 1)) (lv' := [(5, .int _), (4, .int _), (0, .ref _), (1, .int _), (2, .int _), (3, .int _)]) hx hb dX5_setsFor_89 hl (k := 5) rfl (nI_iinc _ 1 rfl) (by decide) rfl (fun ls hl => ?_)
                      refine lv_goto (tgt := 39) hx hb dX5_setsFor_92 (by decide) ?_
                      exact ih39 true (k + 1) (by omega) (by rw [hb2] at c_54; rw [allB_1, ← Bool.and_assoc, c_54]; simp [c_10, c_26, c_49, c_54, c_63, c_79]) (by omega) _ hL ls (lv_sub hl [2, 3, 4, 5, 1, 0] rfl)
          exact L39 (n + 1) (cB (S.1 0) i.toNatClampNeg) 0 (by omega) (by rw [allB_0, Bool.and_true]) (by omega) _ hL ls (lv_sub hl [2, 3, 4, 5, 1, 0] rfl)
    exact L23 16 0 0 (by omega) rfl (by omega) _ hL ls (lv_sub hl [2, 3, 1, 0] rfl)
  ·
    refine lv_aload_n hx hb dX5_setsFor_13 rfl (lv_at hl 0 rfl) ?_
    refine lv_iconst (v := nI 1) hx hb dX5_setsFor_14 (by decide) ?_
    refine Ct.callV (ct_X5_fails l g o (uS S 15 (nI 0)) (nI 1) ) X hL hl vb_X5_fails q1904 (hW.2.1.recv hKV rfl) rfl rfl (Nat.le_of_ble_eq_true rfl) dX5_setsFor_15 ⟨Nat.le_of_ble_eq_true rfl, Nat.le_of_ble_eq_true rfl⟩ (by omega) (by omega) hW (fun r H1 locs hL hp => ?_)
    obtain ⟨rfl, hW, hO1⟩ := hp
    have hO := hO.trans hO1
    have hW := MW.cast (S1 := uS S 15 (nI 1)) hW ⟨rfl, rfl, rfl, rfl, rfl, rfl, rfl, rfl, rfl, rfl, rfl, rfl, rfl, rfl, rfl, rfl, rfl⟩
    exact r_iret X hL rfl rfl dX5_setsFor_18 (by omega) (by omega) ⟨uS S 15 (nI 1), AP.mk (t := 1) (v := some (.int (nI 0))) (X := S) (by simp [s_one, x_, q_, vI, bI_T, bI_F, c_10]) ⟨rfl, rfl, rfl, rfl, rfl, rfl, rfl, rfl⟩ rfl rfl, hW, hO⟩
theorem vb_X5_setsFor : VB yX5_setsFor cX5_setsFor 6 (some .int) 1 := ⟨q2157, q2158, q111, q2159, ⟨by decide, by decide, by decide +kernel⟩⟩

set_option maxRecDepth 100000 in
set_option maxHeartbeats 4000000 in
theorem ct_X5_toldWeakly (l : Launch) (g : GT) (o n : Nat) (S : MS) (v : Int32) (hN : S.1 0 160 = nI n) (hn : n ≤ 40) : Ct l g yX5_toldWeakly cX5_toldWeakly 4 (some .int) 7 0 0 [.ref o, .int v] (MW g o S) (fun r H H1 => ∃ S1, AP S1 (s_bad S (!inB v (nI 1) (nI 4)) (nI (cnt (fun k => cB (S.1 0) k && !anyB (wbB (S.1 0) v k) n) n))) r ∧ MW g o S1 H1 ∧ Off o H H1) := by
  refine Ct.of (by decide) (Nat.le_of_ble_eq_true rfl) ?_
  intro p e s m args below meth c X hP ls hl
  have hx := X.1
  have hb := X.2.1
  have hKV := X.2.2.2.2.2.2.2.1.1
  have hL : ∀ q ∈ ([] : List Loc), gLo g ≤ q.base := fun _ h => by cases h
  have hl : lv_has ls 4 [(0, .ref o), (1, .int v)] := hl
  have hW : MW g o S s.heap := hP
  have hO : Off o s.heap s.heap := Off.rfl'
  refine lv_aload_n hx hb dX5_toldWeakly_0 rfl (lv_at hl 0 rfl) ?_
  refine lv_iconst (v := nI 0) hx hb dX5_toldWeakly_1 (by decide) ?_
  refine mp_38 X rfl hL hW dX5_toldWeakly_2 (fun H locs hL hW hO1 => ?_)
  have hO := hO.trans hO1
  have hW := MW.cast (S1 := uS S 15 (nI 0)) hW ⟨rfl, rfl, rfl, rfl, rfl, rfl, rfl, rfl, rfl, rfl, rfl, rfl, rfl, rfl, rfl, rfl, rfl⟩
  refine lv_iload_n hx hb dX5_toldWeakly_5 rfl (lv_at hl 1 rfl) ?_
  refine lv_iconst (v := nI 1) hx hb dX5_toldWeakly_6 (by decide) ?_
  refine lv_iconst (v := nI 4) hx hb dX5_toldWeakly_7 (by decide) ?_
  refine Cp.callS (v := .int (bI (inB v (nI 1) (nI 4)))) (ct_X5_in l g v (nI 1) (nI 4) ) X hL hl sb_X5_in q1885 rfl rfl (Nat.le_of_ble_eq_true rfl) dX5_toldWeakly_8 ⟨Nat.le_of_ble_eq_true rfl, Nat.le_of_ble_eq_true rfl⟩ (by omega) (by omega) trivial (fun locs hL => ?_)
  refine b_ifne (tgt := 20) X dX5_toldWeakly_11 (by decide) (fun c_11 => ?_) (fun c_11 => ?_)
  ·
    refine lv_iconst (v := nI 0) hx hb dX5_toldWeakly_20 (by decide) ?_
    refine lv_istore_n (lv' := [(2, .int _), (0, .ref _), (1, .int _)]) hx hb dX5_toldWeakly_21 rfl hl (by decide) rfl (fun ls hl => ?_)
    refine lv_iconst (v := nI 0) hx hb dX5_toldWeakly_22 (by decide) ?_
    refine lv_istore_n (lv' := [(3, .int _), (2, .int _), (0, .ref _), (1, .int _)]) hx hb dX5_toldWeakly_23 rfl hl (by decide) rfl (fun ls hl => ?_)
    have L24 : ∀ (fuel : Nat) (w k : Nat), n - k < fuel → (w = cnt (fun k => cB (S.1 0) k && !anyB (wbB (S.1 0) v k) n) k) → (k ≤ n) → ∀ (locs : List Loc), (∀ q ∈ locs, gLo g ≤ q.base) → ∀ (ls : Array Slot), lv_has ls 4 [(0, .ref o), (1, .int v), (2, .int (nI w)), (3, .int (nI k))] → W p l e (rmL 7 0 0) s m args below meth c H locs 0 0 (MQ below (Qcg (fun r H H1 => ∃ S1, AP S1 (s_bad S (!inB v (nI 1) (nI 4)) (nI (cnt (fun k => cB (S.1 0) k && !anyB (wbB (S.1 0) v k) n) n))) r ∧ MW g o S1 H1 ∧ Off o H H1)) args s 0 0 (fre g)) (F0 m 24 ls []) := by
      intro fuel
      induction fuel with
      | zero => intro w k hfu; exact absurd hfu (Nat.not_lt_zero _)
      | succ fuel ih24 =>
        intro w k hfu hv hk  locs hL ls hl
        refine lv_iload_n hx hb dX5_toldWeakly_24 rfl (lv_at hl 3 rfl) ?_
        refine lv_aload_n hx hb dX5_toldWeakly_25 rfl (lv_at hl 0 rfl) ?_
        refine mg_7 X rfl hW dX5_toldWeakly_26 ?_
        refine lv_sipush (v := nI 160) hx hb dX5_toldWeakly_29 (by decide) ?_
        refine m_ld (v := (nI n)) X hW 0 (by decide) rfl 160 rfl (by decide) (show (S.1 0) 160 = (nI n) from hN) dX5_toldWeakly_32 ?_
        refine n_icmp_ge (tgt := 67) X dX5_toldWeakly_33 (by decide) (by omega) (by omega) (fun c_33 => ?_) (fun c_33 => ?_)
        ·
          refine lv_iload_n hx hb dX5_toldWeakly_67 rfl (lv_at hl 2 rfl) ?_
          exact r_iret X hL rfl rfl dX5_toldWeakly_68 (by omega) (by omega) ⟨uS S 15 (nI 0), AP.mk (t := 0) (v := some (.int (nI (cnt (fun k => cB (S.1 0) k && !anyB (wbB (S.1 0) v k) n) n)))) (X := S) (by simp [s_bad, q_, vI, c_11]) ⟨rfl, rfl, rfl, rfl, rfl, rfl, rfl, rfl⟩ rfl (by rw [hv, show k = n by omega]), hW, hO⟩
        ·
          refine lv_iload_n hx hb dX5_toldWeakly_36 rfl (lv_at hl 2 rfl) ?_
          refine lv_aload_n hx hb dX5_toldWeakly_37 rfl (lv_at hl 0 rfl) ?_
          refine lv_iload_n hx hb dX5_toldWeakly_38 rfl (lv_at hl 3 rfl) ?_
          refine Cp.callV (v := .int (bI (cB (S.1 0) k))) (ct_X5_counts l g o k (uS S 15 (nI 0)) (by omega)) X hL hl vb_X5_counts q1939 (hW.2.1.recv hKV rfl) rfl rfl (Nat.le_of_ble_eq_true rfl) dX5_toldWeakly_39 ⟨Nat.le_of_ble_eq_true rfl, Nat.le_of_ble_eq_true rfl⟩ (by omega) (by omega) hW (fun locs hL => ?_)
          refine b_ifeq (tgt := 58) X dX5_toldWeakly_42 (by decide) (fun c_42 => ?_) (fun c_42 => ?_)
          ·
            refine lv_iconst (v := nI 0) hx hb dX5_toldWeakly_58 (by decide) ?_
            refine n_iadd X dX5_toldWeakly_59 ?_
            refine lv_istore_n (lv' := [(2, .int _), (0, .ref _), (1, .int _), (3, .int _)]) hx hb dX5_toldWeakly_60 rfl hl (by decide) rfl (fun ls hl => ?_)
            refine lv_iinc (v := nI (k + 1)) (lv' := [(3, .int _), (2, .int _), (0, .ref _), (1, .int _)]) hx hb dX5_toldWeakly_61 hl (k := 3) rfl (nI_iinc _ 1 rfl) (by decide) rfl (fun ls hl => ?_)
            refine lv_goto (tgt := 24) hx hb dX5_toldWeakly_64 (by decide) ?_
            exact ih24 _ _ (by omega) (by first | (refine cnt_f hv ?_; simp [c_42]; done) | (refine cnt_f hv ?_; simp [c_51]; done) | (refine cnt_t hv ?_; simp [c_42, c_51]; done)) (by omega) _ hL ls (lv_sub hl [2, 3, 1, 0] rfl)
          ·
            refine lv_aload_n hx hb dX5_toldWeakly_45 rfl (lv_at hl 0 rfl) ?_
            refine lv_iload_n hx hb dX5_toldWeakly_46 rfl (lv_at hl 3 rfl) ?_
            refine lv_iload_n hx hb dX5_toldWeakly_47 rfl (lv_at hl 1 rfl) ?_
            refine Cp.callV (v := .int (bI (anyB (wbB (S.1 0) v k) n))) (ct_X5_isWeaklyBeaten l g o n k (uS S 15 (nI 0)) v hN hn (by omega)) X hL hl vb_X5_isWeaklyBeaten q2164 (hW.2.1.recv hKV rfl) rfl rfl (Nat.le_of_ble_eq_true rfl) dX5_toldWeakly_48 ⟨Nat.le_of_ble_eq_true rfl, Nat.le_of_ble_eq_true rfl⟩ (by omega) (by omega) hW (fun locs hL => ?_)
            refine b_ifne (tgt := 58) X dX5_toldWeakly_51 (by decide) (fun c_51 => ?_) (fun c_51 => ?_)
            ·
              refine lv_iconst (v := nI 0) hx hb dX5_toldWeakly_58 (by decide) ?_
              refine n_iadd X dX5_toldWeakly_59 ?_
              refine lv_istore_n (lv' := [(2, .int _), (0, .ref _), (1, .int _), (3, .int _)]) hx hb dX5_toldWeakly_60 rfl hl (by decide) rfl (fun ls hl => ?_)
              refine lv_iinc (v := nI (k + 1)) (lv' := [(3, .int _), (2, .int _), (0, .ref _), (1, .int _)]) hx hb dX5_toldWeakly_61 hl (k := 3) rfl (nI_iinc _ 1 rfl) (by decide) rfl (fun ls hl => ?_)
              refine lv_goto (tgt := 24) hx hb dX5_toldWeakly_64 (by decide) ?_
              exact ih24 _ _ (by omega) (by first | (refine cnt_f hv ?_; simp [c_42]; done) | (refine cnt_f hv ?_; simp [c_51]; done) | (refine cnt_t hv ?_; simp [c_42, c_51]; done)) (by omega) _ hL ls (lv_sub hl [2, 3, 1, 0] rfl)
            ·
              refine lv_iconst (v := nI 1) hx hb dX5_toldWeakly_54 (by decide) ?_
              refine lv_goto (tgt := 59) hx hb dX5_toldWeakly_55 (by decide) ?_
              refine n_iadd X dX5_toldWeakly_59 ?_
              refine lv_istore_n (lv' := [(2, .int _), (0, .ref _), (1, .int _), (3, .int _)]) hx hb dX5_toldWeakly_60 rfl hl (by decide) rfl (fun ls hl => ?_)
              refine lv_iinc (v := nI (k + 1)) (lv' := [(3, .int _), (2, .int _), (0, .ref _), (1, .int _)]) hx hb dX5_toldWeakly_61 hl (k := 3) rfl (nI_iinc _ 1 rfl) (by decide) rfl (fun ls hl => ?_)
              refine lv_goto (tgt := 24) hx hb dX5_toldWeakly_64 (by decide) ?_
              exact ih24 _ _ (by omega) (by first | (refine cnt_f hv ?_; simp [c_42]; done) | (refine cnt_f hv ?_; simp [c_51]; done) | (refine cnt_t hv ?_; simp [c_42, c_51]; done)) (by omega) _ hL ls (lv_sub hl [2, 3, 1, 0] rfl)
    exact L24 (n + 1) 0 0 (by omega) rfl (by omega) _ hL ls (lv_sub hl [2, 3, 1, 0] rfl)
  ·
    refine lv_aload_n hx hb dX5_toldWeakly_14 rfl (lv_at hl 0 rfl) ?_
    refine lv_iconst (v := nI 1) hx hb dX5_toldWeakly_15 (by decide) ?_
    refine Ct.callV (ct_X5_fails l g o (uS S 15 (nI 0)) (nI 1) ) X hL hl vb_X5_fails q1904 (hW.2.1.recv hKV rfl) rfl rfl (Nat.le_of_ble_eq_true rfl) dX5_toldWeakly_16 ⟨Nat.le_of_ble_eq_true rfl, Nat.le_of_ble_eq_true rfl⟩ (by omega) (by omega) hW (fun r H1 locs hL hp => ?_)
    obtain ⟨rfl, hW, hO1⟩ := hp
    have hO := hO.trans hO1
    have hW := MW.cast (S1 := uS S 15 (nI 1)) hW ⟨rfl, rfl, rfl, rfl, rfl, rfl, rfl, rfl, rfl, rfl, rfl, rfl, rfl, rfl, rfl, rfl, rfl⟩
    exact r_iret X hL rfl rfl dX5_toldWeakly_19 (by omega) (by omega) ⟨uS S 15 (nI 1), AP.mk (t := 1) (v := some (.int (nI 0))) (X := S) (by simp [s_bad, x_, q_, vI, bI_T, bI_F, c_11]) ⟨rfl, rfl, rfl, rfl, rfl, rfl, rfl, rfl⟩ rfl rfl, hW, hO⟩
theorem vb_X5_toldWeakly : VB yX5_toldWeakly cX5_toldWeakly 4 (some .int) 1 := ⟨q2161, q2162, q111, q2163, ⟨by decide, by decide, by decide +kernel⟩⟩

set_option maxRecDepth 100000 in
set_option maxHeartbeats 4000000 in
theorem ct_X5_wouldBeTold (l : Launch) (g : GT) (o n : Nat) (S : MS) (a b q t : Int32) (hN : S.1 0 160 = nI n) (hn : n ≤ 40) : Ct l g yX5_wouldBeTold cX5_wouldBeTold 5 (some .boolean) 8 0 0 [.ref o, .int a, .int b, .int q, .int t] (MW g o S) (fun r H H1 => ∃ S1, AP S1 (s_bad S (noVs a b q t) (bI (unB (S.1 0) n (amI a b q t)))) r ∧ MW g o S1 H1 ∧ Off o H H1) := by
  refine Ct.of (by decide) (Nat.le_of_ble_eq_true rfl) ?_
  intro p e s m args below meth c X hP ls hl
  have hx := X.1
  have hb := X.2.1
  have hKV := X.2.2.2.2.2.2.2.1.1
  have hL : ∀ q ∈ ([] : List Loc), gLo g ≤ q.base := fun _ h => by cases h
  have hl : lv_has ls 5 [(0, .ref o), (1, .int a), (2, .int b), (3, .int q), (4, .int t)] := hl
  have hW : MW g o S s.heap := hP
  have hO : Off o s.heap s.heap := Off.rfl'
  refine lv_aload_n hx hb dX5_wouldBeTold_0 rfl (lv_at hl 0 rfl) ?_
  refine lv_iload_n hx hb dX5_wouldBeTold_1 rfl (lv_at hl 1 rfl) ?_
  refine lv_iload_n hx hb dX5_wouldBeTold_2 rfl (lv_at hl 2 rfl) ?_
  refine lv_iload_n hx hb dX5_wouldBeTold_3 rfl (lv_at hl 3 rfl) ?_
  refine lv_iload hx hb dX5_wouldBeTold_4 (lv_at hl 4 rfl) ?_
  refine Cp.callS (v := .int (bI (noVs a b q t))) (ct_X5_areNoValues l g a b q t ) X hL hl sb_X5_areNoValues q1879 rfl rfl (Nat.le_of_ble_eq_true rfl) dX5_wouldBeTold_6 ⟨Nat.le_of_ble_eq_true rfl, Nat.le_of_ble_eq_true rfl⟩ (by omega) (by omega) trivial (fun locs hL => ?_)
  refine b_ifeq (tgt := 16) X dX5_wouldBeTold_9 (by decide) (fun c_9 => ?_) (fun c_9 => ?_)
  ·
    refine lv_iconst (v := nI 0) hx hb dX5_wouldBeTold_16 (by decide) ?_
    refine mp_38 X rfl hL hW dX5_wouldBeTold_17 (fun H locs hL hW hO1 => ?_)
    have hO := hO.trans hO1
    have hW := MW.cast (S1 := uS S 15 (nI 0)) hW ⟨rfl, rfl, rfl, rfl, rfl, rfl, rfl, rfl, rfl, rfl, rfl, rfl, rfl, rfl, rfl, rfl, rfl⟩
    refine lv_aload_n hx hb dX5_wouldBeTold_20 rfl (lv_at hl 0 rfl) ?_
    refine mg_38 X rfl hW dX5_wouldBeTold_21 (W.stk (w := (nI 0)) rfl ?_)
    refine n_ifne (tgt := 43) X dX5_wouldBeTold_24 (by decide) (by omega) (fun c_24 => ?_) (fun c_24 => ?_)
    ·
      exact absurd c_24 (by decide)
    ·
      refine lv_aload_n hx hb dX5_wouldBeTold_27 rfl (lv_at hl 0 rfl) ?_
      refine lv_iload_n hx hb dX5_wouldBeTold_28 rfl (lv_at hl 1 rfl) ?_
      refine lv_iload_n hx hb dX5_wouldBeTold_29 rfl (lv_at hl 2 rfl) ?_
      refine lv_iload_n hx hb dX5_wouldBeTold_30 rfl (lv_at hl 3 rfl) ?_
      refine lv_iload hx hb dX5_wouldBeTold_31 (lv_at hl 4 rfl) ?_
      refine Cp.callV (v := .int (bI (unB (S.1 0) n (amI a b q t)))) (ct_X5_isUnbeaten l g o n (uS S 15 (nI 0)) a b q t hN hn) X hL hl vb_X5_isUnbeaten q2172 (hW.2.1.recv hKV rfl) rfl rfl (Nat.le_of_ble_eq_true rfl) dX5_wouldBeTold_33 ⟨Nat.le_of_ble_eq_true rfl, Nat.le_of_ble_eq_true rfl⟩ (by omega) (by omega) hW (fun locs hL => ?_)
      refine b_ifeq (tgt := 43) X dX5_wouldBeTold_36 (by decide) (fun c_36 => ?_) (fun c_36 => ?_)
      ·
        refine lv_iconst (v := nI 0) hx hb dX5_wouldBeTold_43 (by decide) ?_
        exact r_iret X hL rfl rfl dX5_wouldBeTold_44 (by omega) (by omega) ⟨uS S 15 (nI 0), AP.mk (t := 0) (v := some (.int (nI 0))) (X := S) (by simp [s_bad, x_, q_, vI, bI_T, bI_F, c_9, c_36]) ⟨rfl, rfl, rfl, rfl, rfl, rfl, rfl, rfl⟩ rfl rfl, hW, hO⟩
      ·
        refine lv_iconst (v := nI 1) hx hb dX5_wouldBeTold_39 (by decide) ?_
        refine lv_goto (tgt := 44) hx hb dX5_wouldBeTold_40 (by decide) ?_
        exact r_iret X hL rfl rfl dX5_wouldBeTold_44 (by omega) (by omega) ⟨uS S 15 (nI 0), AP.mk (t := 0) (v := some (.int (nI 1))) (X := S) (by simp [s_bad, x_, q_, vI, bI_T, bI_F, c_9, c_36]) ⟨rfl, rfl, rfl, rfl, rfl, rfl, rfl, rfl⟩ rfl rfl, hW, hO⟩
  ·
    refine lv_iconst (v := nI 1) hx hb dX5_wouldBeTold_12 (by decide) ?_
    refine lv_goto (tgt := 17) hx hb dX5_wouldBeTold_13 (by decide) ?_
    refine mp_38 X rfl hL hW dX5_wouldBeTold_17 (fun H locs hL hW hO1 => ?_)
    have hO := hO.trans hO1
    have hW := MW.cast (S1 := uS S 15 (nI 1)) hW ⟨rfl, rfl, rfl, rfl, rfl, rfl, rfl, rfl, rfl, rfl, rfl, rfl, rfl, rfl, rfl, rfl, rfl⟩
    refine lv_aload_n hx hb dX5_wouldBeTold_20 rfl (lv_at hl 0 rfl) ?_
    refine mg_38 X rfl hW dX5_wouldBeTold_21 (W.stk (w := (nI 1)) rfl ?_)
    refine n_ifne (tgt := 43) X dX5_wouldBeTold_24 (by decide) (by omega) (fun c_24 => ?_) (fun c_24 => ?_)
    ·
      refine lv_iconst (v := nI 0) hx hb dX5_wouldBeTold_43 (by decide) ?_
      exact r_iret X hL rfl rfl dX5_wouldBeTold_44 (by omega) (by omega) ⟨uS S 15 (nI 1), AP.mk (t := 1) (v := some (.int (nI 0))) (X := S) (by simp [s_bad, x_, q_, vI, bI_T, bI_F, c_9]) ⟨rfl, rfl, rfl, rfl, rfl, rfl, rfl, rfl⟩ rfl rfl, hW, hO⟩
    ·
      exact absurd c_24 (by decide)
theorem vb_X5_wouldBeTold : VB yX5_wouldBeTold cX5_wouldBeTold 5 (some .boolean) 4 := ⟨q2169, q2170, q111, q2171, ⟨by decide, by decide, by decide +kernel⟩⟩

set_option maxRecDepth 100000 in
set_option maxHeartbeats 4000000 in
theorem ct_X5_wouldBeat (l : Launch) (g : GT) (o n : Nat) (S : MS) (a b q t : Int32) (hN : S.1 0 160 = nI n) (hn : n ≤ 40) : Ct l g yX5_wouldBeat cX5_wouldBeat 7 (some .int) 8 0 0 [.ref o, .int a, .int b, .int q, .int t] (MW g o S) (fun r H H1 => ∃ S1, AP S1 (s_bad S (noVs a b q t) (nI (cnt (fun k => couB (mle (S.1 0)) (mgr (S.1 0)) (amI a b q t) && (tellB (S.1 0) n (hasB (matI (mw (S.1 0)))) k && decide (agN (mw (S.1 0)) (mv (S.1 0) k) (amI a b q t) = 2))) n))) r ∧ MW g o S1 H1 ∧ Off o H H1) := by
  refine Ct.of (by decide) (Nat.le_of_ble_eq_true rfl) ?_
  intro p e s m args below meth c X hP ls hl
  have hx := X.1
  have hb := X.2.1
  have hKV := X.2.2.2.2.2.2.2.1.1
  have hL : ∀ q ∈ ([] : List Loc), gLo g ≤ q.base := fun _ h => by cases h
  have hl : lv_has ls 7 [(0, .ref o), (1, .int a), (2, .int b), (3, .int q), (4, .int t)] := hl
  have hW : MW g o S s.heap := hP
  have hO : Off o s.heap s.heap := Off.rfl'
  refine lv_aload_n hx hb dX5_wouldBeat_0 rfl (lv_at hl 0 rfl) ?_
  refine lv_iconst (v := nI 0) hx hb dX5_wouldBeat_1 (by decide) ?_
  refine mp_38 X rfl hL hW dX5_wouldBeat_2 (fun H locs hL hW hO1 => ?_)
  have hO := hO.trans hO1
  have hW := MW.cast (S1 := uS S 15 (nI 0)) hW ⟨rfl, rfl, rfl, rfl, rfl, rfl, rfl, rfl, rfl, rfl, rfl, rfl, rfl, rfl, rfl, rfl, rfl⟩
  refine lv_iload_n hx hb dX5_wouldBeat_5 rfl (lv_at hl 1 rfl) ?_
  refine lv_iload_n hx hb dX5_wouldBeat_6 rfl (lv_at hl 2 rfl) ?_
  refine lv_iload_n hx hb dX5_wouldBeat_7 rfl (lv_at hl 3 rfl) ?_
  refine lv_iload hx hb dX5_wouldBeat_8 (lv_at hl 4 rfl) ?_
  refine Cp.callS (v := .int (bI (noVs a b q t))) (ct_X5_areNoValues l g a b q t ) X hL hl sb_X5_areNoValues q1879 rfl rfl (Nat.le_of_ble_eq_true rfl) dX5_wouldBeat_10 ⟨Nat.le_of_ble_eq_true rfl, Nat.le_of_ble_eq_true rfl⟩ (by omega) (by omega) trivial (fun locs hL => ?_)
  refine b_ifeq (tgt := 22) X dX5_wouldBeat_13 (by decide) (fun c_13 => ?_) (fun c_13 => ?_)
  ·
    refine lv_aload_n hx hb dX5_wouldBeat_22 rfl (lv_at hl 0 rfl) ?_
    refine lv_aload_n hx hb dX5_wouldBeat_23 rfl (lv_at hl 0 rfl) ?_
    refine Cp.callV (v := .int (matI (mw (S.1 0)))) (ct_X5_mattering l g o (uS S 15 (nI 0)) ) X hL hl vb_X5_mattering q1927 (hW.2.1.recv hKV rfl) rfl rfl (Nat.le_of_ble_eq_true rfl) dX5_wouldBeat_24 ⟨Nat.le_of_ble_eq_true rfl, Nat.le_of_ble_eq_true rfl⟩ (by omega) (by omega) hW (fun locs hL => ?_)
    refine Ct.callV (ct_X5_tell l g o n (uS S 15 (nI 0)) (matI (mw (S.1 0))) hN hn) X hL hl vb_X5_tell q1935 (hW.2.1.recv hKV rfl) rfl rfl (Nat.le_of_ble_eq_true rfl) dX5_wouldBeat_27 ⟨Nat.le_of_ble_eq_true rfl, Nat.le_of_ble_eq_true rfl⟩ (by omega) (by omega) hW (fun r H1 locs hL hp => ?_)
    obtain ⟨rfl, hW, hO1⟩ := hp
    have hO := hO.trans hO1
    have hW := MW.cast (S1 := uS (uA S 5 (setB (S.1 5) n (tellB (S.1 0) n (hasB (matI (mw (S.1 0))))))) 15 (nI 0)) hW ⟨rfl, rfl, rfl, rfl, rfl, rfl, rfl, rfl, rfl, rfl, rfl, rfl, rfl, rfl, rfl, rfl, rfl⟩
    refine lv_pop hx hb dX5_wouldBeat_30 rfl ?_
    refine lv_iconst (v := nI 0) hx hb dX5_wouldBeat_31 (by decide) ?_
    refine lv_istore (lv' := [(5, .int _), (0, .ref _), (1, .int _), (2, .int _), (3, .int _), (4, .int _)]) hx hb dX5_wouldBeat_32 hl (by decide) rfl (fun ls hl => ?_)
    refine lv_iconst (v := nI 0) hx hb dX5_wouldBeat_34 (by decide) ?_
    refine lv_istore (lv' := [(6, .int _), (5, .int _), (0, .ref _), (1, .int _), (2, .int _), (3, .int _), (4, .int _)]) hx hb dX5_wouldBeat_35 hl (by decide) rfl (fun ls hl => ?_)
    have L37 : ∀ (fuel : Nat) (v k : Nat), n - k < fuel → (v = cnt (fun k => couB (mle (S.1 0)) (mgr (S.1 0)) (amI a b q t) && (tellB (S.1 0) n (hasB (matI (mw (S.1 0)))) k && decide (agN (mw (S.1 0)) (mv (S.1 0) k) (amI a b q t) = 2))) k) → (k ≤ n) → ∀ (locs : List Loc), (∀ q ∈ locs, gLo g ≤ q.base) → ∀ (ls : Array Slot), lv_has ls 7 [(0, .ref o), (1, .int a), (2, .int b), (3, .int q), (4, .int t), (5, .int (nI v)), (6, .int (nI k))] → W p l e (rmL 8 0 0) s m args below meth c H1 locs 0 0 (MQ below (Qcg (fun r H H1 => ∃ S1, AP S1 (s_bad S (noVs a b q t) (nI (cnt (fun k => couB (mle (S.1 0)) (mgr (S.1 0)) (amI a b q t) && (tellB (S.1 0) n (hasB (matI (mw (S.1 0)))) k && decide (agN (mw (S.1 0)) (mv (S.1 0) k) (amI a b q t) = 2))) n))) r ∧ MW g o S1 H1 ∧ Off o H H1)) args s 0 0 (fre g)) (F0 m 37 ls []) := by
      intro fuel
      induction fuel with
      | zero => intro v k hfu; exact absurd hfu (Nat.not_lt_zero _)
      | succ fuel ih37 =>
        intro v k hfu hv hk  locs hL ls hl
        refine lv_iload hx hb dX5_wouldBeat_37 (lv_at hl 6 rfl) ?_
        refine lv_aload_n hx hb dX5_wouldBeat_39 rfl (lv_at hl 0 rfl) ?_
        refine mg_7 X rfl hW dX5_wouldBeat_40 ?_
        refine lv_sipush (v := nI 160) hx hb dX5_wouldBeat_43 (by decide) ?_
        refine m_ld (v := (nI n)) X hW 0 (by decide) rfl 160 rfl (by decide) (show (S.1 0) 160 = (nI n) from hN) dX5_wouldBeat_46 ?_
        refine n_icmp_ge (tgt := 103) X dX5_wouldBeat_47 (by decide) (by omega) (by omega) (fun c_47 => ?_) (fun c_47 => ?_)
        ·
          refine lv_iload hx hb dX5_wouldBeat_103 (lv_at hl 5 rfl) ?_
          exact r_iret X hL rfl rfl dX5_wouldBeat_105 (by omega) (by omega) ⟨uS (uA S 5 (setB (S.1 5) n (tellB (S.1 0) n (hasB (matI (mw (S.1 0))))))) 15 (nI 0), AP.mk (t := 0) (v := some (.int (nI (cnt (fun k => couB (mle (S.1 0)) (mgr (S.1 0)) (amI a b q t) && (tellB (S.1 0) n (hasB (matI (mw (S.1 0)))) k && decide (agN (mw (S.1 0)) (mv (S.1 0) k) (amI a b q t) = 2))) n)))) (X := S) (by simp [s_bad, q_, vI, c_13]) ⟨rfl, rfl, rfl, rfl, rfl, rfl, rfl, rfl⟩ rfl (by rw [hv, show k = n by omega]), hW, hO⟩
        ·
          refine lv_aload_n hx hb dX5_wouldBeat_50 rfl (lv_at hl 0 rfl) ?_
          refine lv_iload_n hx hb dX5_wouldBeat_51 rfl (lv_at hl 1 rfl) ?_
          refine lv_iload_n hx hb dX5_wouldBeat_52 rfl (lv_at hl 2 rfl) ?_
          refine lv_iload_n hx hb dX5_wouldBeat_53 rfl (lv_at hl 3 rfl) ?_
          refine lv_iload hx hb dX5_wouldBeat_54 (lv_at hl 4 rfl) ?_
          refine Cp.callV (v := .int (bI (couB (mle (S.1 0)) (mgr (S.1 0)) (amI a b q t)))) (ct_X5_isWithin l g o (uS (uA S 5 (setB (S.1 5) n (tellB (S.1 0) n (hasB (matI (mw (S.1 0))))))) 15 (nI 0)) a b q t ) X hL hl vb_X5_isWithin q2176 (hW.2.1.recv hKV rfl) rfl rfl (Nat.le_of_ble_eq_true rfl) dX5_wouldBeat_56 ⟨Nat.le_of_ble_eq_true rfl, Nat.le_of_ble_eq_true rfl⟩ (by omega) (by omega) hW (fun locs hL => ?_)
          refine b_ifeq (tgt := 103) X dX5_wouldBeat_59 (by decide) (fun c_59 => ?_) (fun c_59 => ?_)
          ·
            refine lv_iload hx hb dX5_wouldBeat_103 (lv_at hl 5 rfl) ?_
            exact r_iret X hL rfl rfl dX5_wouldBeat_105 (by omega) (by omega) ⟨uS (uA S 5 (setB (S.1 5) n (tellB (S.1 0) n (hasB (matI (mw (S.1 0))))))) 15 (nI 0), AP.mk (t := 0) (v := some (.int (nI (cnt (fun k => couB (mle (S.1 0)) (mgr (S.1 0)) (amI a b q t) && (tellB (S.1 0) n (hasB (matI (mw (S.1 0)))) k && decide (agN (mw (S.1 0)) (mv (S.1 0) k) (amI a b q t) = 2))) n)))) (X := S) (by simp [s_bad, q_, vI, c_13]) ⟨rfl, rfl, rfl, rfl, rfl, rfl, rfl, rfl⟩ rfl (by rw [hv, cnt_ff (fun k => by simp [c_59]), cnt_ff (fun k => by simp [c_59])]), hW, hO⟩
          ·
            refine lv_iload hx hb dX5_wouldBeat_62 (lv_at hl 5 rfl) ?_
            refine lv_aload_n hx hb dX5_wouldBeat_64 rfl (lv_at hl 0 rfl) ?_
            refine mg_25 X rfl hW dX5_wouldBeat_65 ?_
            refine lv_iload hx hb dX5_wouldBeat_68 (lv_at hl 6 rfl) ?_
            refine m_zld (v := (bI (tellB (S.1 0) n (hasB (matI (mw (S.1 0)))) k))) X hW 5 (by decide) rfl k rfl (by show k < 41; omega) (show (setB (S.1 5) n (tellB (S.1 0) n (hasB (matI (mw (S.1 0)))))) k = (bI (tellB (S.1 0) n (hasB (matI (mw (S.1 0)))) k)) from (setB_l (by omega))) dX5_wouldBeat_70 ?_
            refine b_ifeq (tgt := 93) X dX5_wouldBeat_71 (by decide) (fun c_71 => ?_) (fun c_71 => ?_)
            ·
              refine lv_iconst (v := nI 0) hx hb dX5_wouldBeat_93 (by decide) ?_
              refine n_iadd X dX5_wouldBeat_94 ?_
              refine lv_istore (lv' := [(5, .int _), (0, .ref _), (1, .int _), (2, .int _), (3, .int _), (4, .int _), (6, .int _)]) hx hb dX5_wouldBeat_95 hl (by decide) rfl (fun ls hl => ?_)
              refine lv_iinc (v := nI (k + 1)) (lv' := [(6, .int _), (5, .int _), (0, .ref _), (1, .int _), (2, .int _), (3, .int _), (4, .int _)]) hx hb dX5_wouldBeat_97 hl (k := 6) rfl (nI_iinc _ 1 rfl) (by decide) rfl (fun ls hl => ?_)
              refine lv_goto (tgt := 37) hx hb dX5_wouldBeat_100 (by decide) ?_
              exact ih37 _ _ (by omega) (by first | (refine cnt_f hv ?_; simp [c_71]; done) | (refine cnt_f hv ?_; simp [c_86]; done) | (refine cnt_t hv ?_; simp [c_59, c_71, c_86]; done)) (by omega) _ hL ls (lv_sub hl [2, 3, 4, 5, 6, 1, 0] rfl)
            ·
              refine lv_aload_n hx hb dX5_wouldBeat_74 rfl (lv_at hl 0 rfl) ?_
              refine lv_iload hx hb dX5_wouldBeat_75 (lv_at hl 6 rfl) ?_
              refine lv_iload_n hx hb dX5_wouldBeat_77 rfl (lv_at hl 1 rfl) ?_
              refine lv_iload_n hx hb dX5_wouldBeat_78 rfl (lv_at hl 2 rfl) ?_
              refine lv_iload_n hx hb dX5_wouldBeat_79 rfl (lv_at hl 3 rfl) ?_
              refine lv_iload hx hb dX5_wouldBeat_80 (lv_at hl 4 rfl) ?_
              refine Cp.callV (v := .int (nI (agN (mw (S.1 0)) (mv (S.1 0) k) (amI a b q t)))) (ct_X5_against l g o k (uS (uA S 5 (setB (S.1 5) n (tellB (S.1 0) n (hasB (matI (mw (S.1 0))))))) 15 (nI 0)) a b q t (by omega)) X hL hl vb_X5_against q2183 (hW.2.1.recv hKV rfl) rfl rfl (Nat.le_of_ble_eq_true rfl) dX5_wouldBeat_82 ⟨Nat.le_of_ble_eq_true rfl, Nat.le_of_ble_eq_true rfl⟩ (by omega) (by omega) hW (fun locs hL => ?_)
              refine lv_iconst (v := nI 2) hx hb dX5_wouldBeat_85 (by decide) ?_
              have hag := agN_le (mw (S.1 0)) (mv (S.1 0) k) (amI a b q t)
              refine n_icmp_ne (tgt := 93) X dX5_wouldBeat_86 (by decide) (by omega) (by omega) (fun c_86 => ?_) (fun c_86 => ?_)
              ·
                refine lv_iconst (v := nI 0) hx hb dX5_wouldBeat_93 (by decide) ?_
                refine n_iadd X dX5_wouldBeat_94 ?_
                refine lv_istore (lv' := [(5, .int _), (0, .ref _), (1, .int _), (2, .int _), (3, .int _), (4, .int _), (6, .int _)]) hx hb dX5_wouldBeat_95 hl (by decide) rfl (fun ls hl => ?_)
                refine lv_iinc (v := nI (k + 1)) (lv' := [(6, .int _), (5, .int _), (0, .ref _), (1, .int _), (2, .int _), (3, .int _), (4, .int _)]) hx hb dX5_wouldBeat_97 hl (k := 6) rfl (nI_iinc _ 1 rfl) (by decide) rfl (fun ls hl => ?_)
                refine lv_goto (tgt := 37) hx hb dX5_wouldBeat_100 (by decide) ?_
                exact ih37 _ _ (by omega) (by first | (refine cnt_f hv ?_; simp [c_71]; done) | (refine cnt_f hv ?_; simp [c_86]; done) | (refine cnt_t hv ?_; simp [c_59, c_71, c_86]; done)) (by omega) _ hL ls (lv_sub hl [2, 3, 4, 5, 6, 1, 0] rfl)
              ·
                refine lv_iconst (v := nI 1) hx hb dX5_wouldBeat_89 (by decide) ?_
                refine lv_goto (tgt := 94) hx hb dX5_wouldBeat_90 (by decide) ?_
                refine n_iadd X dX5_wouldBeat_94 ?_
                refine lv_istore (lv' := [(5, .int _), (0, .ref _), (1, .int _), (2, .int _), (3, .int _), (4, .int _), (6, .int _)]) hx hb dX5_wouldBeat_95 hl (by decide) rfl (fun ls hl => ?_)
                refine lv_iinc (v := nI (k + 1)) (lv' := [(6, .int _), (5, .int _), (0, .ref _), (1, .int _), (2, .int _), (3, .int _), (4, .int _)]) hx hb dX5_wouldBeat_97 hl (k := 6) rfl (nI_iinc _ 1 rfl) (by decide) rfl (fun ls hl => ?_)
                refine lv_goto (tgt := 37) hx hb dX5_wouldBeat_100 (by decide) ?_
                exact ih37 _ _ (by omega) (by first | (refine cnt_f hv ?_; simp [c_71]; done) | (refine cnt_f hv ?_; simp [c_86]; done) | (refine cnt_t hv ?_; simp [c_59, c_71, c_86]; done)) (by omega) _ hL ls (lv_sub hl [2, 3, 4, 5, 6, 1, 0] rfl)
    exact L37 (n + 1) 0 0 (by omega) rfl (by omega) _ hL ls (lv_sub hl [2, 3, 4, 5, 6, 1, 0] rfl)
  ·
    refine lv_aload_n hx hb dX5_wouldBeat_16 rfl (lv_at hl 0 rfl) ?_
    refine lv_iconst (v := nI 1) hx hb dX5_wouldBeat_17 (by decide) ?_
    refine Ct.callV (ct_X5_fails l g o (uS S 15 (nI 0)) (nI 1) ) X hL hl vb_X5_fails q1904 (hW.2.1.recv hKV rfl) rfl rfl (Nat.le_of_ble_eq_true rfl) dX5_wouldBeat_18 ⟨Nat.le_of_ble_eq_true rfl, Nat.le_of_ble_eq_true rfl⟩ (by omega) (by omega) hW (fun r H1 locs hL hp => ?_)
    obtain ⟨rfl, hW, hO1⟩ := hp
    have hO := hO.trans hO1
    have hW := MW.cast (S1 := uS S 15 (nI 1)) hW ⟨rfl, rfl, rfl, rfl, rfl, rfl, rfl, rfl, rfl, rfl, rfl, rfl, rfl, rfl, rfl, rfl, rfl⟩
    exact r_iret X hL rfl rfl dX5_wouldBeat_21 (by omega) (by omega) ⟨uS S 15 (nI 1), AP.mk (t := 1) (v := some (.int (nI 0))) (X := S) (by simp [s_bad, x_, q_, vI, bI_T, bI_F, c_13]) ⟨rfl, rfl, rfl, rfl, rfl, rfl, rfl, rfl⟩ rfl rfl, hW, hO⟩
theorem vb_X5_wouldBeat : VB yX5_wouldBeat cX5_wouldBeat 7 (some .int) 4 := ⟨q2192, q2193, q111, q2194, ⟨by decide, by decide, by decide +kernel⟩⟩

set_option maxRecDepth 100000 in
set_option maxHeartbeats 4000000 in
theorem ct_X5_byScore (l : Launch) (g : GT) (o n : Nat) (S : MS) (x : Int32) (hN : S.1 0 160 = nI n) (hn : n ≤ 40) : Ct l g yX5_byScore cX5_byScore 3 (some .int) 7 0 0 [.ref o, .int x] (MW g o S) (fun r H H1 => ∃ S1, AP S1 (s_fst S (fstI (fun k => cB (S.1 0) k && decide (nI (rnkN (S.1 0) n k) = x)) n)) r ∧ MW g o S1 H1 ∧ Off o H H1) := by
  refine Ct.of (by decide) (Nat.le_of_ble_eq_true rfl) ?_
  intro p e s m args below meth c X hP ls hl
  have hx := X.1
  have hb := X.2.1
  have hKV := X.2.2.2.2.2.2.2.1.1
  have hL : ∀ q ∈ ([] : List Loc), gLo g ≤ q.base := fun _ h => by cases h
  have hl : lv_has ls 3 [(0, .ref o), (1, .int x)] := hl
  have hW : MW g o S s.heap := hP
  have hO : Off o s.heap s.heap := Off.rfl'
  refine lv_aload_n hx hb dX5_byScore_0 rfl (lv_at hl 0 rfl) ?_
  refine lv_iconst (v := nI 0) hx hb dX5_byScore_1 (by decide) ?_
  refine mp_38 X rfl hL hW dX5_byScore_2 (fun H locs hL hW hO1 => ?_)
  have hO := hO.trans hO1
  have hW := MW.cast (S1 := uS S 15 (nI 0)) hW ⟨rfl, rfl, rfl, rfl, rfl, rfl, rfl, rfl, rfl, rfl, rfl, rfl, rfl, rfl, rfl, rfl, rfl⟩
  refine lv_aload_n hx hb dX5_byScore_5 rfl (lv_at hl 0 rfl) ?_
  refine lv_iload_n hx hb dX5_byScore_6 rfl (lv_at hl 1 rfl) ?_
  refine Cp.callV (v := .int (fstI (fun k => cB (S.1 0) k && decide (nI (rnkN (S.1 0) n k) = x)) n)) (ct_X5_scored l g o n (uS S 15 (nI 0)) x hN hn) X hL hl vb_X5_scored q2240 (hW.2.1.recv hKV rfl) rfl rfl (Nat.le_of_ble_eq_true rfl) dX5_byScore_7 ⟨Nat.le_of_ble_eq_true rfl, Nat.le_of_ble_eq_true rfl⟩ (by omega) (by omega) hW (fun locs hL => ?_)
  refine lv_istore_n (lv' := [(2, .int _), (0, .ref _), (1, .int _)]) hx hb dX5_byScore_10 rfl hl (by decide) rfl (fun ls hl => ?_)
  refine lv_iload_n hx hb dX5_byScore_11 rfl (lv_at hl 0 rfl) ?_
  refine lv_iconst (v := (-1)) hx hb dX5_byScore_12 (by decide) ?_
  refine lv_icmp_ne (tgt := 24) hx hb dX5_byScore_13 (by decide) (fun c_13 => ?_) (fun c_13 => ?_)
  ·
    refine lv_iload_n hx hb dX5_byScore_24 rfl (lv_at hl 0 rfl) ?_
    exact r_iret X hL rfl rfl dX5_byScore_25 (by omega) (by omega) ⟨uS S 15 (nI 0), AP.mk (t := 0) (v := some (.int (fstI (fun k => cB (S.1 0) k && decide (nI (rnkN (S.1 0) n k) = x)) n))) (X := S) (by simp [s_fst, x_, q_, vI, c_13]) ⟨rfl, rfl, rfl, rfl, rfl, rfl, rfl, rfl⟩ rfl rfl, hW, hO⟩
  ·
    refine lv_aload_n hx hb dX5_byScore_16 rfl (lv_at hl 1 rfl) ?_
    refine lv_iconst (v := nI 1) hx hb dX5_byScore_17 (by decide) ?_
    refine Ct.callV (ct_X5_fails l g o (uS S 15 (nI 0)) (nI 1) ) X hL hl vb_X5_fails q1904 (hW.2.1.recv hKV rfl) rfl rfl (Nat.le_of_ble_eq_true rfl) dX5_byScore_18 ⟨Nat.le_of_ble_eq_true rfl, Nat.le_of_ble_eq_true rfl⟩ (by omega) (by omega) hW (fun r H1 locs hL hp => ?_)
    obtain ⟨rfl, hW, hO1⟩ := hp
    have hO := hO.trans hO1
    have hW := MW.cast (S1 := uS S 15 (nI 1)) hW ⟨rfl, rfl, rfl, rfl, rfl, rfl, rfl, rfl, rfl, rfl, rfl, rfl, rfl, rfl, rfl, rfl, rfl⟩
    refine lv_goto (tgt := 25) hx hb dX5_byScore_21 (by decide) ?_
    exact r_iret X hL rfl rfl dX5_byScore_25 (by omega) (by omega) ⟨uS S 15 (nI 1), AP.mk (t := 1) (v := some (.int (nI 0))) (X := S) (by simp [s_fst, x_, q_, vI, c_13]) ⟨rfl, rfl, rfl, rfl, rfl, rfl, rfl, rfl⟩ rfl rfl, hW, hO⟩
theorem vb_X5_byScore : VB yX5_byScore cX5_byScore 3 (some .int) 1 := ⟨q2237, q2238, q111, q2239, ⟨by decide, by decide, by decide +kernel⟩⟩

set_option maxRecDepth 100000 in
set_option maxHeartbeats 4000000 in
theorem ct_X5_reachByPairs (l : Launch) (g : GT) (o n : Nat) (S : MS) (a b : Int32) (hN : S.1 0 160 = nI n) (hn : n ≤ 40) : Ct l g yX5_reachByPairs cX5_reachByPairs 3 (some .int) 7 0 0 [.ref o, .int a, .int b] (MW g o S) (fun r H H1 => ∃ S1, AP S1 (s_reach S n a b) r ∧ MW g o S1 H1 ∧ Off o H H1) := by
  refine Ct.of (by decide) (Nat.le_of_ble_eq_true rfl) ?_
  intro p e s m args below meth c X hP ls hl
  have hx := X.1
  have hb := X.2.1
  have hKV := X.2.2.2.2.2.2.2.1.1
  have hL : ∀ q ∈ ([] : List Loc), gLo g ≤ q.base := fun _ h => by cases h
  have hl : lv_has ls 3 [(0, .ref o), (1, .int a), (2, .int b)] := hl
  have hW : MW g o S s.heap := hP
  have hO : Off o s.heap s.heap := Off.rfl'
  refine lv_aload_n hx hb dX5_reachByPairs_0 rfl (lv_at hl 0 rfl) ?_
  refine lv_iload_n hx hb dX5_reachByPairs_1 rfl (lv_at hl 1 rfl) ?_
  refine Cp.callS (v := .int (bI (!inB a (nI 0) (nI 3)))) (ct_X5_isNoSide l g a ) X hL hl sb_X5_isNoSide q1916 rfl rfl (Nat.le_of_ble_eq_true rfl) dX5_reachByPairs_2 ⟨Nat.le_of_ble_eq_true rfl, Nat.le_of_ble_eq_true rfl⟩ (by omega) (by omega) trivial (fun locs hL => ?_)
  refine b_ifne (tgt := 15) X dX5_reachByPairs_5 (by decide) (fun c_5 => ?_) (fun c_5 => ?_)
  ·
    refine lv_iconst (v := nI 1) hx hb dX5_reachByPairs_15 (by decide) ?_
    refine lv_goto (tgt := 45) hx hb dX5_reachByPairs_16 (by decide) ?_
    refine mp_38 X rfl hL hW dX5_reachByPairs_45 (fun H locs hL hW hO1 => ?_)
    have hO := hO.trans hO1
    have hW := MW.cast (S1 := uS S 15 (nI 1)) hW ⟨rfl, rfl, rfl, rfl, rfl, rfl, rfl, rfl, rfl, rfl, rfl, rfl, rfl, rfl, rfl, rfl, rfl⟩
    refine lv_aload_n hx hb dX5_reachByPairs_48 rfl (lv_at hl 0 rfl) ?_
    refine mg_38 X rfl hW dX5_reachByPairs_49 (W.stk (w := (nI 1)) rfl ?_)
    refine n_ifeq (tgt := 59) X dX5_reachByPairs_52 (by decide) (by omega) (fun c_52 => ?_) (fun c_52 => ?_)
    ·
      exact absurd c_52 (by decide)
    ·
      refine lv_iconst (v := nI 0) hx hb dX5_reachByPairs_55 (by decide) ?_
      refine lv_goto (tgt := 65) hx hb dX5_reachByPairs_56 (by decide) ?_
      exact r_iret X hL rfl rfl dX5_reachByPairs_65 (by omega) (by omega) ⟨uS S 15 (nI 1), AP.mk (t := 1) (v := some (.int (nI 0))) (X := S) (by simp [s_reach, x_, q_, vI, bI_T, bI_F, noS, c_5]) ⟨rfl, rfl, rfl, rfl, rfl, rfl, rfl, rfl⟩ rfl rfl, hW, hO⟩
  ·
    refine lv_iload_n hx hb dX5_reachByPairs_8 rfl (lv_at hl 2 rfl) ?_
    refine Cp.callS (v := .int (bI (!inB b (nI 0) (nI 3)))) (ct_X5_isNoSide l g b ) X hL hl sb_X5_isNoSide q1916 rfl rfl (Nat.le_of_ble_eq_true rfl) dX5_reachByPairs_9 ⟨Nat.le_of_ble_eq_true rfl, Nat.le_of_ble_eq_true rfl⟩ (by omega) (by omega) trivial (fun locs hL => ?_)
    refine b_ifeq (tgt := 19) X dX5_reachByPairs_12 (by decide) (fun c_12 => ?_) (fun c_12 => ?_)
    ·
      refine lv_iload_n hx hb dX5_reachByPairs_19 rfl (lv_at hl 1 rfl) ?_
      refine lv_iload_n hx hb dX5_reachByPairs_20 rfl (lv_at hl 2 rfl) ?_
      refine lv_icmp_eq (tgt := 40) hx hb dX5_reachByPairs_21 (by decide) (fun c_21 => ?_) (fun c_21 => ?_)
      ·
        refine lv_iconst (v := nI 2) hx hb dX5_reachByPairs_40 (by decide) ?_
        refine lv_goto (tgt := 45) hx hb dX5_reachByPairs_41 (by decide) ?_
        refine mp_38 X rfl hL hW dX5_reachByPairs_45 (fun H locs hL hW hO1 => ?_)
        have hO := hO.trans hO1
        have hW := MW.cast (S1 := uS S 15 (nI 2)) hW ⟨rfl, rfl, rfl, rfl, rfl, rfl, rfl, rfl, rfl, rfl, rfl, rfl, rfl, rfl, rfl, rfl, rfl⟩
        refine lv_aload_n hx hb dX5_reachByPairs_48 rfl (lv_at hl 0 rfl) ?_
        refine mg_38 X rfl hW dX5_reachByPairs_49 (W.stk (w := (nI 2)) rfl ?_)
        refine n_ifeq (tgt := 59) X dX5_reachByPairs_52 (by decide) (by omega) (fun c_52 => ?_) (fun c_52 => ?_)
        ·
          exact absurd c_52 (by decide)
        ·
          refine lv_iconst (v := nI 0) hx hb dX5_reachByPairs_55 (by decide) ?_
          refine lv_goto (tgt := 65) hx hb dX5_reachByPairs_56 (by decide) ?_
          exact r_iret X hL rfl rfl dX5_reachByPairs_65 (by omega) (by omega) ⟨uS S 15 (nI 2), AP.mk (t := 2) (v := some (.int (nI 0))) (X := S) (by simp [s_reach, x_, q_, vI, bI_T, bI_F, noS, c_5, c_12, c_21]) ⟨rfl, rfl, rfl, rfl, rfl, rfl, rfl, rfl⟩ rfl rfl, hW, hO⟩
      ·
        obtain ⟨hac, hal⟩ := noS_nat c_5
        obtain ⟨hbc, hbl⟩ := noS_nat c_12
        refine lv_aload_n hx hb dX5_reachByPairs_24 rfl (lv_at hl 0 rfl) ?_
        refine lv_iload_n hx hb dX5_reachByPairs_25 rfl (lv_at hl 1 rfl) ?_
        refine W.stk (w := (nI a.toNatClampNeg)) hac ?_
        refine Cp.callV (v := .int (bI (matB (mw (S.1 0)) a.toNatClampNeg))) (ct_X5_matters l g o a.toNatClampNeg S (by omega)) X hL hl vb_X5_matters q1931 (hW.2.1.recv hKV rfl) rfl rfl (Nat.le_of_ble_eq_true rfl) dX5_reachByPairs_26 ⟨Nat.le_of_ble_eq_true rfl, Nat.le_of_ble_eq_true rfl⟩ (by omega) (by omega) hW (fun locs hL => ?_)
        refine b_ifeq (tgt := 40) X dX5_reachByPairs_29 (by decide) (fun c_29 => ?_) (fun c_29 => ?_)
        ·
          refine lv_iconst (v := nI 2) hx hb dX5_reachByPairs_40 (by decide) ?_
          refine lv_goto (tgt := 45) hx hb dX5_reachByPairs_41 (by decide) ?_
          refine mp_38 X rfl hL hW dX5_reachByPairs_45 (fun H locs hL hW hO1 => ?_)
          have hO := hO.trans hO1
          have hW := MW.cast (S1 := uS S 15 (nI 2)) hW ⟨rfl, rfl, rfl, rfl, rfl, rfl, rfl, rfl, rfl, rfl, rfl, rfl, rfl, rfl, rfl, rfl, rfl⟩
          refine lv_aload_n hx hb dX5_reachByPairs_48 rfl (lv_at hl 0 rfl) ?_
          refine mg_38 X rfl hW dX5_reachByPairs_49 (W.stk (w := (nI 2)) rfl ?_)
          refine n_ifeq (tgt := 59) X dX5_reachByPairs_52 (by decide) (by omega) (fun c_52 => ?_) (fun c_52 => ?_)
          ·
            exact absurd c_52 (by decide)
          ·
            refine lv_iconst (v := nI 0) hx hb dX5_reachByPairs_55 (by decide) ?_
            refine lv_goto (tgt := 65) hx hb dX5_reachByPairs_56 (by decide) ?_
            exact r_iret X hL rfl rfl dX5_reachByPairs_65 (by omega) (by omega) ⟨uS S 15 (nI 2), AP.mk (t := 2) (v := some (.int (nI 0))) (X := S) (by simp [s_reach, x_, q_, vI, bI_T, bI_F, noS, c_5, c_12, c_21, c_29]) ⟨rfl, rfl, rfl, rfl, rfl, rfl, rfl, rfl⟩ rfl rfl, hW, hO⟩
        ·
          refine lv_aload_n hx hb dX5_reachByPairs_32 rfl (lv_at hl 0 rfl) ?_
          refine lv_iload_n hx hb dX5_reachByPairs_33 rfl (lv_at hl 2 rfl) ?_
          refine W.stk (w := (nI b.toNatClampNeg)) hbc ?_
          refine Cp.callV (v := .int (bI (matB (mw (S.1 0)) b.toNatClampNeg))) (ct_X5_matters l g o b.toNatClampNeg S (by omega)) X hL hl vb_X5_matters q1931 (hW.2.1.recv hKV rfl) rfl rfl (Nat.le_of_ble_eq_true rfl) dX5_reachByPairs_34 ⟨Nat.le_of_ble_eq_true rfl, Nat.le_of_ble_eq_true rfl⟩ (by omega) (by omega) hW (fun locs hL => ?_)
          refine b_ifne (tgt := 44) X dX5_reachByPairs_37 (by decide) (fun c_37 => ?_) (fun c_37 => ?_)
          ·
            refine lv_iconst (v := nI 0) hx hb dX5_reachByPairs_44 (by decide) ?_
            refine mp_38 X rfl hL hW dX5_reachByPairs_45 (fun H locs hL hW hO1 => ?_)
            have hO := hO.trans hO1
            have hW := MW.cast (S1 := uS S 15 (nI 0)) hW ⟨rfl, rfl, rfl, rfl, rfl, rfl, rfl, rfl, rfl, rfl, rfl, rfl, rfl, rfl, rfl, rfl, rfl⟩
            refine lv_aload_n hx hb dX5_reachByPairs_48 rfl (lv_at hl 0 rfl) ?_
            refine mg_38 X rfl hW dX5_reachByPairs_49 (W.stk (w := (nI 0)) rfl ?_)
            refine n_ifeq (tgt := 59) X dX5_reachByPairs_52 (by decide) (by omega) (fun c_52 => ?_) (fun c_52 => ?_)
            ·
              refine lv_aload_n hx hb dX5_reachByPairs_59 rfl (lv_at hl 0 rfl) ?_
              refine lv_iload_n hx hb dX5_reachByPairs_60 rfl (lv_at hl 1 rfl) ?_
              refine W.stk (w := (nI a.toNatClampNeg)) hac ?_
              refine lv_iload_n hx hb dX5_reachByPairs_61 rfl (lv_at hl 2 rfl) ?_
              refine W.stk (w := (nI b.toNatClampNeg)) hbc ?_
              refine Cp.callV (v := .int (reaI (S.1 0) n a.toNatClampNeg b.toNatClampNeg 100)) (ct_X5_reached l g o n a.toNatClampNeg b.toNatClampNeg (uS S 15 (nI 0)) hN hn (by omega) (by omega)) X hL hl vb_X5_reached q2248 (hW.2.1.recv hKV rfl) rfl rfl (Nat.le_of_ble_eq_true rfl) dX5_reachByPairs_62 ⟨Nat.le_of_ble_eq_true rfl, Nat.le_of_ble_eq_true rfl⟩ (by omega) (by omega) hW (fun locs hL => ?_)
              exact r_iret X hL rfl rfl dX5_reachByPairs_65 (by omega) (by omega) ⟨uS S 15 (nI 0), AP.mk (t := 0) (v := some (.int (reaI (S.1 0) n a.toNatClampNeg b.toNatClampNeg 100))) (X := S) (by simp [s_reach, x_, q_, vI, bI_T, bI_F, noS, c_5, c_12, c_21, c_29, c_37]) ⟨rfl, rfl, rfl, rfl, rfl, rfl, rfl, rfl⟩ rfl rfl, hW, hO⟩
            ·
              exact absurd c_52 (by decide)
          ·
            refine lv_iconst (v := nI 2) hx hb dX5_reachByPairs_40 (by decide) ?_
            refine lv_goto (tgt := 45) hx hb dX5_reachByPairs_41 (by decide) ?_
            refine mp_38 X rfl hL hW dX5_reachByPairs_45 (fun H locs hL hW hO1 => ?_)
            have hO := hO.trans hO1
            have hW := MW.cast (S1 := uS S 15 (nI 2)) hW ⟨rfl, rfl, rfl, rfl, rfl, rfl, rfl, rfl, rfl, rfl, rfl, rfl, rfl, rfl, rfl, rfl, rfl⟩
            refine lv_aload_n hx hb dX5_reachByPairs_48 rfl (lv_at hl 0 rfl) ?_
            refine mg_38 X rfl hW dX5_reachByPairs_49 (W.stk (w := (nI 2)) rfl ?_)
            refine n_ifeq (tgt := 59) X dX5_reachByPairs_52 (by decide) (by omega) (fun c_52 => ?_) (fun c_52 => ?_)
            ·
              exact absurd c_52 (by decide)
            ·
              refine lv_iconst (v := nI 0) hx hb dX5_reachByPairs_55 (by decide) ?_
              refine lv_goto (tgt := 65) hx hb dX5_reachByPairs_56 (by decide) ?_
              exact r_iret X hL rfl rfl dX5_reachByPairs_65 (by omega) (by omega) ⟨uS S 15 (nI 2), AP.mk (t := 2) (v := some (.int (nI 0))) (X := S) (by simp [s_reach, x_, q_, vI, bI_T, bI_F, noS, c_5, c_12, c_21, c_29, c_37]) ⟨rfl, rfl, rfl, rfl, rfl, rfl, rfl, rfl⟩ rfl rfl, hW, hO⟩
    ·
      refine lv_iconst (v := nI 1) hx hb dX5_reachByPairs_15 (by decide) ?_
      refine lv_goto (tgt := 45) hx hb dX5_reachByPairs_16 (by decide) ?_
      refine mp_38 X rfl hL hW dX5_reachByPairs_45 (fun H locs hL hW hO1 => ?_)
      have hO := hO.trans hO1
      have hW := MW.cast (S1 := uS S 15 (nI 1)) hW ⟨rfl, rfl, rfl, rfl, rfl, rfl, rfl, rfl, rfl, rfl, rfl, rfl, rfl, rfl, rfl, rfl, rfl⟩
      refine lv_aload_n hx hb dX5_reachByPairs_48 rfl (lv_at hl 0 rfl) ?_
      refine mg_38 X rfl hW dX5_reachByPairs_49 (W.stk (w := (nI 1)) rfl ?_)
      refine n_ifeq (tgt := 59) X dX5_reachByPairs_52 (by decide) (by omega) (fun c_52 => ?_) (fun c_52 => ?_)
      ·
        exact absurd c_52 (by decide)
      ·
        refine lv_iconst (v := nI 0) hx hb dX5_reachByPairs_55 (by decide) ?_
        refine lv_goto (tgt := 65) hx hb dX5_reachByPairs_56 (by decide) ?_
        exact r_iret X hL rfl rfl dX5_reachByPairs_65 (by omega) (by omega) ⟨uS S 15 (nI 1), AP.mk (t := 1) (v := some (.int (nI 0))) (X := S) (by simp [s_reach, x_, q_, vI, bI_T, bI_F, noS, c_5, c_12]) ⟨rfl, rfl, rfl, rfl, rfl, rfl, rfl, rfl⟩ rfl rfl, hW, hO⟩
theorem vb_X5_reachByPairs : VB yX5_reachByPairs cX5_reachByPairs 3 (some .int) 2 := ⟨q2245, q2246, q111, q2247, ⟨by decide, by decide, by decide +kernel⟩⟩

set_option maxRecDepth 100000 in
set_option maxHeartbeats 4000000 in
theorem ct_X5_reachBySteps (l : Launch) (g : GT) (o n : Nat) (S : MS) (a b : Int32) (hN : S.1 0 160 = nI n) (hn : n ≤ 40) : Ct l g yX5_reachBySteps cX5_reachBySteps 3 (some .int) 8 0 0 [.ref o, .int a, .int b] (MW g o S) (fun r H H1 => ∃ S1, AP S1 (s_reach S n a b) r ∧ MW g o S1 H1 ∧ Off o H H1) := by
  refine Ct.of (by decide) (Nat.le_of_ble_eq_true rfl) ?_
  intro p e s m args below meth c X hP ls hl
  have hx := X.1
  have hb := X.2.1
  have hKV := X.2.2.2.2.2.2.2.1.1
  have hL : ∀ q ∈ ([] : List Loc), gLo g ≤ q.base := fun _ h => by cases h
  have hl : lv_has ls 3 [(0, .ref o), (1, .int a), (2, .int b)] := hl
  have hW : MW g o S s.heap := hP
  have hO : Off o s.heap s.heap := Off.rfl'
  refine lv_aload_n hx hb dX5_reachBySteps_0 rfl (lv_at hl 0 rfl) ?_
  refine lv_iload_n hx hb dX5_reachBySteps_1 rfl (lv_at hl 1 rfl) ?_
  refine lv_iload_n hx hb dX5_reachBySteps_2 rfl (lv_at hl 2 rfl) ?_
  refine Ct.callV (ct_X5_reachByPairs l g o n S a b hN hn) X hL hl vb_X5_reachByPairs q2256 (hW.2.1.recv hKV rfl) rfl rfl (Nat.le_of_ble_eq_true rfl) dX5_reachBySteps_3 ⟨Nat.le_of_ble_eq_true rfl, Nat.le_of_ble_eq_true rfl⟩ (by omega) (by omega) hW (fun r H1 locs hL hp => ?_)
  obtain ⟨S1, ⟨h1, h2, h3⟩, hW, hO1⟩ := hp
  obtain ⟨v, hv⟩ : ∃ v, (s_reach S n a b).2.1 = some (.int v) := by unfold s_reach; (repeat first | exact ⟨_, rfl⟩ | split)
  rw [hv] at h3
  subst h3
  exact r_iret X hL rfl rfl dX5_reachBySteps_6 (by omega) (by omega) ⟨S1, ⟨h1, h2, hv.symm⟩, hW, hO.trans hO1⟩
theorem vb_X5_reachBySteps : VB yX5_reachBySteps cX5_reachBySteps 3 (some .int) 2 := ⟨q2253, q2254, q111, q2255, ⟨by decide, by decide, by decide +kernel⟩⟩

set_option maxRecDepth 100000 in
set_option maxHeartbeats 4000000 in
theorem ct_X5_added (l : Launch) (g : GT) (o : Nat) (S : MS)  : Ct l g yX5_added cX5_added 1 (some .int) 2 0 0 [.ref o] (MW g o S) (fun r H H1 => ∃ S1, AP S1 (q_ S (S.1 0 177)) r ∧ MW g o S1 H1 ∧ Off o H H1) := by
  refine Ct.of (by decide) (Nat.le_of_ble_eq_true rfl) ?_
  intro p e s m args below meth c X hP ls hl
  have hx := X.1
  have hb := X.2.1
  have hKV := X.2.2.2.2.2.2.2.1.1
  have hL : ∀ q ∈ ([] : List Loc), gLo g ≤ q.base := fun _ h => by cases h
  have hl : lv_has ls 1 [(0, .ref o)] := hl
  have hW : MW g o S s.heap := hP
  have hO : Off o s.heap s.heap := Off.rfl'
  refine lv_aload_n hx hb dX5_added_0 rfl (lv_at hl 0 rfl) ?_
  refine lv_iconst (v := nI 0) hx hb dX5_added_1 (by decide) ?_
  refine mp_38 X rfl hL hW dX5_added_2 (fun H locs hL hW hO1 => ?_)
  have hO := hO.trans hO1
  have hW := MW.cast (S1 := uS S 15 (nI 0)) hW ⟨rfl, rfl, rfl, rfl, rfl, rfl, rfl, rfl, rfl, rfl, rfl, rfl, rfl, rfl, rfl, rfl, rfl⟩
  refine lv_aload_n hx hb dX5_added_5 rfl (lv_at hl 0 rfl) ?_
  refine mg_7 X rfl hW dX5_added_6 ?_
  refine lv_sipush (v := nI 177) hx hb dX5_added_9 (by decide) ?_
  refine m_ld (v := ((S.1 0) 177)) X hW 0 (by decide) rfl 177 rfl (by decide) rfl dX5_added_12 ?_
  exact r_iret X hL rfl rfl dX5_added_13 (by omega) (by omega) ⟨uS S 15 (nI 0), AP.mk (t := 0) (v := some (.int ((S.1 0) 177))) (X := S) rfl ⟨rfl, rfl, rfl, rfl, rfl, rfl, rfl, rfl⟩ rfl rfl, hW, hO⟩
theorem vb_X5_added : VB yX5_added cX5_added 1 (some .int) 0 := ⟨q2258, q2259, q111, q2260, ⟨by decide, by decide, by decide +kernel⟩⟩

set_option maxRecDepth 100000 in
set_option maxHeartbeats 4000000 in
theorem ct_X5_removed (l : Launch) (g : GT) (o : Nat) (S : MS)  : Ct l g yX5_removed cX5_removed 1 (some .int) 2 0 0 [.ref o] (MW g o S) (fun r H H1 => ∃ S1, AP S1 (q_ S (S.1 0 178)) r ∧ MW g o S1 H1 ∧ Off o H H1) := by
  refine Ct.of (by decide) (Nat.le_of_ble_eq_true rfl) ?_
  intro p e s m args below meth c X hP ls hl
  have hx := X.1
  have hb := X.2.1
  have hKV := X.2.2.2.2.2.2.2.1.1
  have hL : ∀ q ∈ ([] : List Loc), gLo g ≤ q.base := fun _ h => by cases h
  have hl : lv_has ls 1 [(0, .ref o)] := hl
  have hW : MW g o S s.heap := hP
  have hO : Off o s.heap s.heap := Off.rfl'
  refine lv_aload_n hx hb dX5_removed_0 rfl (lv_at hl 0 rfl) ?_
  refine lv_iconst (v := nI 0) hx hb dX5_removed_1 (by decide) ?_
  refine mp_38 X rfl hL hW dX5_removed_2 (fun H locs hL hW hO1 => ?_)
  have hO := hO.trans hO1
  have hW := MW.cast (S1 := uS S 15 (nI 0)) hW ⟨rfl, rfl, rfl, rfl, rfl, rfl, rfl, rfl, rfl, rfl, rfl, rfl, rfl, rfl, rfl, rfl, rfl⟩
  refine lv_aload_n hx hb dX5_removed_5 rfl (lv_at hl 0 rfl) ?_
  refine mg_7 X rfl hW dX5_removed_6 ?_
  refine lv_sipush (v := nI 178) hx hb dX5_removed_9 (by decide) ?_
  refine m_ld (v := ((S.1 0) 178)) X hW 0 (by decide) rfl 178 rfl (by decide) rfl dX5_removed_12 ?_
  exact r_iret X hL rfl rfl dX5_removed_13 (by omega) (by omega) ⟨uS S 15 (nI 0), AP.mk (t := 0) (v := some (.int ((S.1 0) 178))) (X := S) rfl ⟨rfl, rfl, rfl, rfl, rfl, rfl, rfl, rfl⟩ rfl rfl, hW, hO⟩
theorem vb_X5_removed : VB yX5_removed cX5_removed 1 (some .int) 0 := ⟨q2262, q2263, q111, q2264, ⟨by decide, by decide, by decide +kernel⟩⟩

set_option maxRecDepth 100000 in
set_option maxHeartbeats 4000000 in
theorem ct_X5_beatings (l : Launch) (g : GT) (o n : Nat) (S : MS) (hN : S.1 0 160 = nI n) (hn : n ≤ 40) : Ct l g yX5_beatings cX5_beatings 1 (some .int) 8 0 0 [.ref o] (MW g o S) (fun r H H1 => ∃ S1, AP S1 (q_ S (nI (sumN (beaN (S.1 0) n) n))) r ∧ MW g o S1 H1 ∧ Off o H H1) := by
  refine Ct.of (by decide) (Nat.le_of_ble_eq_true rfl) ?_
  intro p e s m args below meth c X hP ls hl
  have hx := X.1
  have hb := X.2.1
  have hKV := X.2.2.2.2.2.2.2.1.1
  have hL : ∀ q ∈ ([] : List Loc), gLo g ≤ q.base := fun _ h => by cases h
  have hl : lv_has ls 1 [(0, .ref o)] := hl
  have hW : MW g o S s.heap := hP
  have hO : Off o s.heap s.heap := Off.rfl'
  refine lv_aload_n hx hb dX5_beatings_0 rfl (lv_at hl 0 rfl) ?_
  refine lv_iconst (v := nI 0) hx hb dX5_beatings_1 (by decide) ?_
  refine mp_38 X rfl hL hW dX5_beatings_2 (fun H locs hL hW hO1 => ?_)
  have hO := hO.trans hO1
  have hW := MW.cast (S1 := uS S 15 (nI 0)) hW ⟨rfl, rfl, rfl, rfl, rfl, rfl, rfl, rfl, rfl, rfl, rfl, rfl, rfl, rfl, rfl, rfl, rfl⟩
  refine lv_aload_n hx hb dX5_beatings_5 rfl (lv_at hl 0 rfl) ?_
  refine Cp.callV (v := .int (nI (sumN (beaN (S.1 0) n) n))) (ct_X5_allBeatings l g o n (uS S 15 (nI 0)) hN hn) X hL hl vb_X5_allBeatings q2269 (hW.2.1.recv hKV rfl) rfl rfl (Nat.le_of_ble_eq_true rfl) dX5_beatings_6 ⟨Nat.le_of_ble_eq_true rfl, Nat.le_of_ble_eq_true rfl⟩ (by omega) (by omega) hW (fun locs hL => ?_)
  exact r_iret X hL rfl rfl dX5_beatings_9 (by omega) (by omega) ⟨uS S 15 (nI 0), AP.mk (t := 0) (v := some (.int (nI (sumN (beaN (S.1 0) n) n)))) (X := S) rfl ⟨rfl, rfl, rfl, rfl, rfl, rfl, rfl, rfl⟩ rfl rfl, hW, hO⟩
theorem vb_X5_beatings : VB yX5_beatings cX5_beatings 1 (some .int) 0 := ⟨q2266, q2267, q111, q2268, ⟨by decide, by decide, by decide +kernel⟩⟩

set_option maxRecDepth 100000 in
set_option maxHeartbeats 4000000 in
theorem ct_X5_toldShare (l : Launch) (g : GT) (o n : Nat) (S : MS) (hN : S.1 0 160 = nI n) (hn : n ≤ 40) : Ct l g yX5_toldShare cX5_toldShare 2 (some .double) 7 0 0 [.ref o] (MW g o S) (fun r H H1 => ∃ S1, AP S1 (q_d S (shF (cnt (tellB (S.1 0) n (hasB (matI (mw (S.1 0))))) n) (cnt (cB (S.1 0)) n))) r ∧ MW g o S1 H1 ∧ Off o H H1) := by
  refine Ct.of (by decide) (Nat.le_of_ble_eq_true rfl) ?_
  intro p e s m args below meth c X hP ls hl
  have hx := X.1
  have hb := X.2.1
  have hKV := X.2.2.2.2.2.2.2.1.1
  have hL : ∀ q ∈ ([] : List Loc), gLo g ≤ q.base := fun _ h => by cases h
  have hl : lv_has ls 2 [(0, .ref o)] := hl
  have hW : MW g o S s.heap := hP
  have hO : Off o s.heap s.heap := Off.rfl'
  refine lv_aload_n hx hb dX5_toldShare_0 rfl (lv_at hl 0 rfl) ?_
  refine lv_iconst (v := nI 0) hx hb dX5_toldShare_1 (by decide) ?_
  refine mp_38 X rfl hL hW dX5_toldShare_2 (fun H locs hL hW hO1 => ?_)
  have hO := hO.trans hO1
  have hW := MW.cast (S1 := uS S 15 (nI 0)) hW ⟨rfl, rfl, rfl, rfl, rfl, rfl, rfl, rfl, rfl, rfl, rfl, rfl, rfl, rfl, rfl, rfl, rfl⟩
  refine lv_aload_n hx hb dX5_toldShare_5 rfl (lv_at hl 0 rfl) ?_
  refine Cp.callV (v := .int (nI (cnt (cB (S.1 0)) n))) (ct_X5_countingOnes l g o n (uS S 15 (nI 0)) hN hn) X hL hl vb_X5_countingOnes q1963 (hW.2.1.recv hKV rfl) rfl rfl (Nat.le_of_ble_eq_true rfl) dX5_toldShare_6 ⟨Nat.le_of_ble_eq_true rfl, Nat.le_of_ble_eq_true rfl⟩ (by omega) (by omega) hW (fun locs hL => ?_)
  refine lv_istore_n (lv' := [(1, .int _), (0, .ref _)]) hx hb dX5_toldShare_9 rfl hl (by decide) rfl (fun ls hl => ?_)
  refine lv_iload_n hx hb dX5_toldShare_10 rfl (lv_at hl 0 rfl) ?_
  have hc1 := cnt_le (cB (S.1 0)) n
  refine n_ifne (tgt := 18) X dX5_toldShare_11 (by decide) (by omega) (fun c_11 => ?_) (fun c_11 => ?_)
  ·
    refine lv_aload_n hx hb dX5_toldShare_18 rfl (lv_at hl 1 rfl) ?_
    refine lv_aload_n hx hb dX5_toldShare_19 rfl (lv_at hl 1 rfl) ?_
    refine Cp.callV (v := .int (matI (mw (S.1 0)))) (ct_X5_mattering l g o (uS S 15 (nI 0)) ) X hL hl vb_X5_mattering q1927 (hW.2.1.recv hKV rfl) rfl rfl (Nat.le_of_ble_eq_true rfl) dX5_toldShare_20 ⟨Nat.le_of_ble_eq_true rfl, Nat.le_of_ble_eq_true rfl⟩ (by omega) (by omega) hW (fun locs hL => ?_)
    refine Ct.callV (ct_X5_tell l g o n (uS S 15 (nI 0)) (matI (mw (S.1 0))) hN hn) X hL hl vb_X5_tell q1935 (hW.2.1.recv hKV rfl) rfl rfl (Nat.le_of_ble_eq_true rfl) dX5_toldShare_23 ⟨Nat.le_of_ble_eq_true rfl, Nat.le_of_ble_eq_true rfl⟩ (by omega) (by omega) hW (fun r H1 locs hL hp => ?_)
    obtain ⟨rfl, hW, hO1⟩ := hp
    have hO := hO.trans hO1
    have hW := MW.cast (S1 := uS (uA S 5 (setB (S.1 5) n (tellB (S.1 0) n (hasB (matI (mw (S.1 0))))))) 15 (nI 0)) hW ⟨rfl, rfl, rfl, rfl, rfl, rfl, rfl, rfl, rfl, rfl, rfl, rfl, rfl, rfl, rfl, rfl, rfl⟩
    refine lv_i2d hx hb dX5_toldShare_26 ?_
    refine lv_iload_n hx hb dX5_toldShare_27 rfl (lv_at hl 0 rfl) ?_
    refine lv_i2d hx hb dX5_toldShare_28 ?_
    have hc2 := cnt_le (tellB (S.1 0) n (hasB (matI (mw (S.1 0))))) n
    refine lv_ddiv hx hb dX5_toldShare_29 (ddiv_ok (cnt (tellB (S.1 0) n (hasB (matI (mw (S.1 0))))) n) (by omega) (cnt (cB (S.1 0)) n) (by omega) (by omega)) ?_
    exact r_dret X hL dX5_toldShare_30 (by omega) (by omega) ⟨uS (uA S 5 (setB (S.1 5) n (tellB (S.1 0) n (hasB (matI (mw (S.1 0))))))) 15 (nI 0), AP.mk (t := 0) (v := some (.double (FP.ddiv (FP.i2d (nI (cnt (tellB (S.1 0) n (hasB (matI (mw (S.1 0))))) n))) (FP.i2d (nI (cnt (cB (S.1 0)) n)))))) (X := S) (by simp [q_d, shF, c_11]) ⟨rfl, rfl, rfl, rfl, rfl, rfl, rfl, rfl⟩ rfl rfl, hW, hO⟩
  ·
    refine lv_dconst0 hx hb dX5_toldShare_14 ?_
    refine lv_goto (tgt := 30) hx hb dX5_toldShare_15 (by decide) ?_
    exact r_dret X hL dX5_toldShare_30 (by omega) (by omega) ⟨uS S 15 (nI 0), AP.mk (t := 0) (v := some (.double FP.dconst0)) (X := S) (by simp [q_d, shF, c_11]) ⟨rfl, rfl, rfl, rfl, rfl, rfl, rfl, rfl⟩ rfl rfl, hW, hO⟩
theorem vb_X5_toldShare : VB yX5_toldShare cX5_toldShare 2 (some .double) 0 := ⟨q2274, q2275, q111, q2276, ⟨by decide, by decide, by decide +kernel⟩⟩
