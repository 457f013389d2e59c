/-! the model's walks, sixth part: more of its calls -/
theorem bI_T : bI true = nI 1 := rfl
theorem bI_F : bI false = nI 0 := rfl
def s_append (S : MS) (ln : Nat) (v : Int32) : Nat × Option Value × MS := if !inB v (nI 33) (nI 126) then x_ S 1 else if ln = 60 then x_ S 2 else (0, vI (nI (ln + 1)), uS (uA S 4 (upd (S.1 4) ln v)) 13 (nI (ln + 1)))
def s_clear (S : MS) (ln : Nat) : Nat × Option Value × MS := (0, vI (nI ln), uS S 13 (nI 0))
def s_keep (S : MS) (hf hs : Bool) (v : Int32) : Nat × Option Value × MS := (if inB v (nI 0) (nI 1) then 0 else 1, none, uS (uS (uA S 3 (if inB v (nI 0) (nI 1) then putP (S.1 3) (S.1 0) (179 * v.toNatClampNeg) 179 else S.1 3)) 10 (bI (hf || decide (v = nI 0)))) 11 (bI (hs || decide (v = nI 1))))
def s_goBack (S : MS) (st : Nat) (hf hs : Bool) (v : Int32) : Nat × Option Value × MS := if !inB v (nI 0) (nI 1) then (1, none, S) else if !(if v = 0 then hf else hs) then (2, none, S) else (0, none, upR S st (setI (S.1 0) 179 (fun j => S.1 3 (179 * v.toNatClampNeg + j))))
def s_undo (S : MS) (st : Nat) : Nat × Option Value × MS := if st = 0 then (1, none, S) else (0, none, uS (uA S 0 (setI (S.1 0) 179 (fun j => S.1 2 (179 * (st - 1) + j)))) 12 (nI (st - 1)))
def s_val (S : MS) (n : Nat) (i q : Int32) : Nat × Option Value × MS := if noB n i || noS q then x_ S 1 else q_ S (S.1 0 (4 * i.toNatClampNeg + q.toNatClampNeg))
def s_of (S : MS) (b : Nat) (q : Int32) : Nat × Option Value × MS := if noS q then x_ S 1 else q_ S (S.1 0 (b + q.toNatClampNeg))
def s_two (S : MS) (n : Nat) (i j : Int32) (v : Nat → Nat → Int32) : Nat × Option Value × MS := if noB n i || noB n j then x_ S 1 else q_ S (v i.toNatClampNeg j.toNatClampNeg)
def s_fst (S : MS) (v : Int32) : Nat × Option Value × MS := if v = (-1) then x_ S 1 else q_ S v
def s_bad (S : MS) (bad : Bool) (v : Int32) : Nat × Option Value × MS := if bad then x_ S 1 else q_ S v
theorem nI_m1 {k : Nat} (hk : k < 2 ^ 31) : ¬ nI k = (-1) := fun e => by
  have := nI_pos hk
  rw [e] at this
  exact this (by decide)
theorem s_fst_k {S : MS} {v : Int32} {k : Nat} (hk : k < 2 ^ 31) (h : v = nI k) : s_fst S v = (0, some (.int (nI k)), S) := by unfold s_fst; rw [h, if_neg (nI_m1 hk)]; rfl
theorem s_fst_n {S : MS} {v : Int32} (h : v = (-1)) : s_fst S v = (1, some (.int (nI 0)), S) := by unfold s_fst; rw [h, if_pos rfl]; rfl
theorem cnt_ff {p : Nat → Bool} (h : ∀ k, p k = false) : ∀ n, cnt p n = 0
  | 0 => rfl
  | n + 1 => by unfold cnt; rw [cnt_ff h n, h n]; rfl

set_option maxRecDepth 100000 in
set_option maxHeartbeats 4000000 in
theorem ct_X5_append (l : Launch) (g : GT) (o ln : Nat) (S : MS) (v : Int32) (hln : S.2.1 13 = nI ln) (hl6 : ln ≤ 60) : Ct l g yX5_append cX5_append 2 (some .int) 3 0 0 [.ref o, .int v] (MW g o S) (fun r H H1 => ∃ S1, AP S1 (s_append S ln v) r ∧ MW g o S1 H1 ∧ Off o H H1) := by
  refine Ct.of (by decide) (Nat.le_of_ble_eq_true rfl) ?_
  intro p e s m args below meth c X hP ls hl
  have hx := X.1
  have hb := X.2.1
  have hKV := X.2.2.2.2.2.2.2.1.1
  have hL : ∀ q ∈ ([] : List Loc), gLo g ≤ q.base := fun _ h => by cases h
  have hl : lv_has ls 2 [(0, .ref o), (1, .int v)] := hl
  have hW : MW g o S s.heap := hP
  have hO : Off o s.heap s.heap := Off.rfl'
  refine lv_aload_n hx hb dX5_append_0 rfl (lv_at hl 0 rfl) ?_
  refine lv_iload_n hx hb dX5_append_1 rfl (lv_at hl 1 rfl) ?_
  refine lv_bipush (v := nI 33) hx hb dX5_append_2 (by decide) ?_
  refine lv_bipush (v := nI 126) hx hb dX5_append_4 (by decide) ?_
  refine Cp.callS (v := .int (bI (inB v (nI 33) (nI 126)))) (ct_X5_in l g v (nI 33) (nI 126) ) X hL hl sb_X5_in q1885 rfl rfl (Nat.le_of_ble_eq_true rfl) dX5_append_6 ⟨Nat.le_of_ble_eq_true rfl, Nat.le_of_ble_eq_true rfl⟩ (by omega) (by omega) trivial (fun locs hL => ?_)
  refine b_ifne (tgt := 16) X dX5_append_9 (by decide) (fun c_9 => ?_) (fun c_9 => ?_)
  ·
    refine lv_aload_n hx hb dX5_append_16 rfl (lv_at hl 0 rfl) ?_
    refine mg_118 X rfl hW dX5_append_17 (W.stk (w := (nI ln)) hln ?_)
    refine lv_bipush (v := nI 60) hx hb dX5_append_20 (by decide) ?_
    refine n_icmp_ne (tgt := 29) X dX5_append_22 (by decide) (by omega) (by omega) (fun c_22 => ?_) (fun c_22 => ?_)
    ·
      refine lv_iconst (v := nI 0) hx hb dX5_append_29 (by decide) ?_
      refine mp_38 X rfl hL hW dX5_append_30 (fun H locs hL hW hO1 => ?_)
      have hO := hO.trans hO1
      have hW := MW.cast (S1 := uS S 15 (nI 0)) hW ⟨rfl, rfl, rfl, rfl, rfl, rfl, rfl, rfl, rfl, rfl, rfl, rfl, rfl, rfl, rfl, rfl, rfl⟩
      refine lv_aload_n hx hb dX5_append_33 rfl (lv_at hl 0 rfl) ?_
      refine mg_38 X rfl hW dX5_append_34 (W.stk (w := (nI 0)) rfl ?_)
      refine n_ifeq (tgt := 42) X dX5_append_37 (by decide) (by omega) (fun c_37 => ?_) (fun c_37 => ?_)
      ·
        refine lv_aload_n hx hb dX5_append_42 rfl (lv_at hl 0 rfl) ?_
        refine mg_22 X rfl hW dX5_append_43 ?_
        refine lv_aload_n hx hb dX5_append_46 rfl (lv_at hl 0 rfl) ?_
        refine mg_118 X rfl hW dX5_append_47 (W.stk (w := (nI ln)) hln ?_)
        refine lv_iload_n hx hb dX5_append_50 rfl (lv_at hl 1 rfl) ?_
        refine m_st X hL hW 4 (by decide) rfl ln rfl (by show ln < 60; omega) dX5_append_51 (fun H locs hL hW hO1 => ?_)
        have hO := hO.trans hO1
        have hW := MW.cast (S1 := uS (uA S 4 (upd (S.1 4) ln v)) 15 (nI 0)) hW ⟨rfl, rfl, rfl, rfl, rfl, rfl, rfl, rfl, rfl, rfl, rfl, rfl, rfl, rfl, rfl, rfl, rfl⟩
        refine lv_aload_n hx hb dX5_append_52 rfl (lv_at hl 0 rfl) ?_
        refine lv_dup hx hb dX5_append_53 rfl ?_
        refine mg_118 X rfl hW dX5_append_54 (W.stk (w := (nI ln)) hln ?_)
        refine lv_iconst (v := nI 1) hx hb dX5_append_57 (by decide) ?_
        refine n_iadd X dX5_append_58 ?_
        refine mp_118 X rfl hL hW dX5_append_59 (fun H locs hL hW hO1 => ?_)
        have hO := hO.trans hO1
        have hW := MW.cast (S1 := uS (uS (uA S 4 (upd (S.1 4) ln v)) 13 (nI (ln + 1))) 15 (nI 0)) hW ⟨rfl, rfl, rfl, rfl, rfl, rfl, rfl, rfl, rfl, rfl, rfl, rfl, rfl, rfl, rfl, rfl, rfl⟩
        refine lv_aload_n hx hb dX5_append_62 rfl (lv_at hl 0 rfl) ?_
        refine mg_118 X rfl hW dX5_append_63 (W.stk (w := (nI (ln + 1))) rfl ?_)
        exact r_iret X hL rfl rfl dX5_append_66 (by omega) (by omega) ⟨uS (uS (uA S 4 (upd (S.1 4) ln v)) 13 (nI (ln + 1))) 15 (nI 0), AP.mk (t := 0) (v := some (.int (nI (ln + 1)))) (X := uS (uA S 4 (upd (S.1 4) ln v)) 13 (nI (ln + 1))) (by simp [s_append, x_, q_, vI, bI_T, bI_F, c_9, c_22]) ⟨rfl, rfl, rfl, rfl, rfl, rfl, rfl, rfl⟩ rfl rfl, hW, hO⟩
      ·
        exact absurd c_37 (by decide)
    ·
      refine lv_iconst (v := nI 2) hx hb dX5_append_25 (by decide) ?_
      refine lv_goto (tgt := 30) hx hb dX5_append_26 (by decide) ?_
      refine mp_38 X rfl hL hW dX5_append_30 (fun H locs hL hW hO1 => ?_)
      have hO := hO.trans hO1
      have hW := MW.cast (S1 := uS S 15 (nI 2)) hW ⟨rfl, rfl, rfl, rfl, rfl, rfl, rfl, rfl, rfl, rfl, rfl, rfl, rfl, rfl, rfl, rfl, rfl⟩
      refine lv_aload_n hx hb dX5_append_33 rfl (lv_at hl 0 rfl) ?_
      refine mg_38 X rfl hW dX5_append_34 (W.stk (w := (nI 2)) rfl ?_)
      refine n_ifeq (tgt := 42) X dX5_append_37 (by decide) (by omega) (fun c_37 => ?_) (fun c_37 => ?_)
      ·
        exact absurd c_37 (by decide)
      ·
        refine lv_iconst (v := nI 0) hx hb dX5_append_40 (by decide) ?_
        exact r_iret X hL rfl rfl dX5_append_41 (by omega) (by omega) ⟨uS S 15 (nI 2), AP.mk (t := 2) (v := some (.int (nI 0))) (X := S) (by simp [s_append, x_, q_, vI, bI_T, bI_F, c_9, c_22]) ⟨rfl, rfl, rfl, rfl, rfl, rfl, rfl, rfl⟩ rfl rfl, hW, hO⟩
  ·
    refine lv_iconst (v := nI 1) hx hb dX5_append_12 (by decide) ?_
    refine lv_goto (tgt := 30) hx hb dX5_append_13 (by decide) ?_
    refine mp_38 X rfl hL hW dX5_append_30 (fun H locs hL hW hO1 => ?_)
    have hO := hO.trans hO1
    have hW := MW.cast (S1 := uS S 15 (nI 1)) hW ⟨rfl, rfl, rfl, rfl, rfl, rfl, rfl, rfl, rfl, rfl, rfl, rfl, rfl, rfl, rfl, rfl, rfl⟩
    refine lv_aload_n hx hb dX5_append_33 rfl (lv_at hl 0 rfl) ?_
    refine mg_38 X rfl hW dX5_append_34 (W.stk (w := (nI 1)) rfl ?_)
    refine n_ifeq (tgt := 42) X dX5_append_37 (by decide) (by omega) (fun c_37 => ?_) (fun c_37 => ?_)
    ·
      exact absurd c_37 (by decide)
    ·
      refine lv_iconst (v := nI 0) hx hb dX5_append_40 (by decide) ?_
      exact r_iret X hL rfl rfl dX5_append_41 (by omega) (by omega) ⟨uS S 15 (nI 1), AP.mk (t := 1) (v := some (.int (nI 0))) (X := S) (by simp [s_append, x_, q_, vI, bI_T, bI_F, c_9]) ⟨rfl, rfl, rfl, rfl, rfl, rfl, rfl, rfl⟩ rfl rfl, hW, hO⟩
theorem vb_X5_append : VB yX5_append cX5_append 2 (some .int) 1 := ⟨q1972, q1973, q111, q1974, ⟨by decide, by decide, by decide +kernel⟩⟩

set_option maxRecDepth 100000 in
set_option maxHeartbeats 4000000 in
theorem ct_X5_clearBuffer (l : Launch) (g : GT) (o ln : Nat) (S : MS) (hln : S.2.1 13 = nI ln) (hl6 : ln ≤ 60) : Ct l g yX5_clearBuffer cX5_clearBuffer 2 (some .int) 2 0 0 [.ref o] (MW g o S) (fun r H H1 => ∃ S1, AP S1 (s_clear S ln) r ∧ MW g o S1 H1 ∧ Off o H H1) := by
  refine Ct.of (by decide) (Nat.le_of_ble_eq_true rfl) ?_
  intro p e s m args below meth c X hP ls hl
  have hx := X.1
  have hb := X.2.1
  have hKV := X.2.2.2.2.2.2.2.1.1
  have hL : ∀ q ∈ ([] : List Loc), gLo g ≤ q.base := fun _ h => by cases h
  have hl : lv_has ls 2 [(0, .ref o)] := hl
  have hW : MW g o S s.heap := hP
  have hO : Off o s.heap s.heap := Off.rfl'
  refine lv_aload_n hx hb dX5_clearBuffer_0 rfl (lv_at hl 0 rfl) ?_
  refine lv_iconst (v := nI 0) hx hb dX5_clearBuffer_1 (by decide) ?_
  refine mp_38 X rfl hL hW dX5_clearBuffer_2 (fun H locs hL hW hO1 => ?_)
  have hO := hO.trans hO1
  have hW := MW.cast (S1 := uS S 15 (nI 0)) hW ⟨rfl, rfl, rfl, rfl, rfl, rfl, rfl, rfl, rfl, rfl, rfl, rfl, rfl, rfl, rfl, rfl, rfl⟩
  refine lv_aload_n hx hb dX5_clearBuffer_5 rfl (lv_at hl 0 rfl) ?_
  refine mg_118 X rfl hW dX5_clearBuffer_6 (W.stk (w := (nI ln)) hln ?_)
  refine lv_istore_n (lv' := [(1, .int _), (0, .ref _)]) hx hb dX5_clearBuffer_9 rfl hl (by decide) rfl (fun ls hl => ?_)
  refine lv_aload_n hx hb dX5_clearBuffer_10 rfl (lv_at hl 1 rfl) ?_
  refine lv_iconst (v := nI 0) hx hb dX5_clearBuffer_11 (by decide) ?_
  refine mp_118 X rfl hL hW dX5_clearBuffer_12 (fun H locs hL hW hO1 => ?_)
  have hO := hO.trans hO1
  have hW := MW.cast (S1 := uS (uS S 13 (nI 0)) 15 (nI 0)) hW ⟨rfl, rfl, rfl, rfl, rfl, rfl, rfl, rfl, rfl, rfl, rfl, rfl, rfl, rfl, rfl, rfl, rfl⟩
  refine lv_iload_n hx hb dX5_clearBuffer_15 rfl (lv_at hl 0 rfl) ?_
  exact r_iret X hL rfl rfl dX5_clearBuffer_16 (by omega) (by omega) ⟨uS (uS S 13 (nI 0)) 15 (nI 0), AP.mk (t := 0) (v := some (.int (nI ln))) (X := uS S 13 (nI 0)) rfl ⟨rfl, rfl, rfl, rfl, rfl, rfl, rfl, rfl⟩ rfl rfl, hW, hO⟩
theorem vb_X5_clearBuffer : VB yX5_clearBuffer cX5_clearBuffer 2 (some .int) 0 := ⟨q1976, q1977, q111, q1978, ⟨by decide, by decide, by decide +kernel⟩⟩

set_option maxRecDepth 100000 in
set_option maxHeartbeats 4000000 in
theorem ct_X5_keep (l : Launch) (g : GT) (o : Nat) (S : MS) (hf hs : Bool) (v : Int32) (hF : S.2.1 10 = bI hf) (hG : S.2.1 11 = bI hs) : Ct l g yX5_keep cX5_keep 3 none 3 0 0 [.ref o, .int v] (MW g o S) (fun r H H1 => ∃ S1, AP S1 (s_keep S hf hs v) r ∧ MW g o S1 H1 ∧ Off o H H1) := by
  refine Ct.of (by decide) (Nat.le_of_ble_eq_true rfl) ?_
  intro p e s m args below meth c X hP ls hl
  have hx := X.1
  have hb := X.2.1
  have hKV := X.2.2.2.2.2.2.2.1.1
  have hL : ∀ q ∈ ([] : List Loc), gLo g ≤ q.base := fun _ h => by cases h
  have hl : lv_has ls 3 [(0, .ref o), (1, .int v)] := hl
  have hW : MW g o S s.heap := hP
  have hO : Off o s.heap s.heap := Off.rfl'
  refine lv_aload_n hx hb dX5_keep_0 rfl (lv_at hl 0 rfl) ?_
  refine lv_iload_n hx hb dX5_keep_1 rfl (lv_at hl 1 rfl) ?_
  refine lv_iconst (v := nI 0) hx hb dX5_keep_2 (by decide) ?_
  refine lv_iconst (v := nI 1) hx hb dX5_keep_3 (by decide) ?_
  refine Cp.callS (v := .int (bI (inB v (nI 0) (nI 1)))) (ct_X5_in l g v (nI 0) (nI 1) ) X hL hl sb_X5_in q1885 rfl rfl (Nat.le_of_ble_eq_true rfl) dX5_keep_4 ⟨Nat.le_of_ble_eq_true rfl, Nat.le_of_ble_eq_true rfl⟩ (by omega) (by omega) trivial (fun locs hL => ?_)
  refine b_ifne (tgt := 14) X dX5_keep_7 (by decide) (fun c_7 => ?_) (fun c_7 => ?_)
  ·
    obtain ⟨hvc, -, hvl⟩ := inB_nat (by omega) (by omega) c_7
    refine lv_iconst (v := nI 0) hx hb dX5_keep_14 (by decide) ?_
    refine mp_38 X rfl hL hW dX5_keep_15 (fun H locs hL hW hO1 => ?_)
    have hO := hO.trans hO1
    have hW := MW.cast (S1 := uS S 15 (nI 0)) hW ⟨rfl, rfl, rfl, rfl, rfl, rfl, rfl, rfl, rfl, rfl, rfl, rfl, rfl, rfl, rfl, rfl, rfl⟩
    refine lv_iconst (v := nI 0) hx hb dX5_keep_18 (by decide) ?_
    refine lv_istore_n (lv' := [(2, .int _), (0, .ref _), (1, .int _)]) hx hb dX5_keep_19 rfl hl (by decide) rfl (fun ls hl => ?_)
    have L20 : ∀ (fuel : Nat) (k : Nat), 179 - k < fuel → (k ≤ 179) → ∀ (H : Heap), MW g o (uS (uA S 3 (putP (S.1 3) (S.1 0) (179 * v.toNatClampNeg) k)) 15 (nI 0)) H → Off o s.heap H → ∀ (locs : List Loc), (∀ q ∈ locs, gLo g ≤ q.base) → ∀ (ls : Array Slot), lv_has ls 3 [(0, .ref o), (1, .int v), (2, .int (nI k))] → W p l e (rmL 3 0 0) s m args below meth c H locs 0 0 (MQ below (Qcg (fun r H H1 => ∃ S1, AP S1 (s_keep S hf hs v) r ∧ MW g o S1 H1 ∧ Off o H H1)) args s 0 0 (fre g)) (F0 m 20 ls []) := by
      intro fuel
      induction fuel with
      | zero => intro k hfu; exact absurd hfu (Nat.not_lt_zero _)
      | succ fuel ih20 =>
        intro k hfu hk H hW hO locs hL ls hl
        refine lv_iload_n hx hb dX5_keep_20 rfl (lv_at hl 2 rfl) ?_
        refine lv_sipush (v := nI 179) hx hb dX5_keep_21 (by decide) ?_
        refine n_icmp_ge (tgt := 58) X dX5_keep_24 (by decide) (by omega) (by omega) (fun c_24 => ?_) (fun c_24 => ?_)
        ·
          have hk9 : k = 179 := by omega
          have hW := MW.eqA (k := 3) (f := putP (S.1 3) (S.1 0) (179 * v.toNatClampNeg) k) (f1 := putP (S.1 3) (S.1 0) (179 * v.toNatClampNeg) 179) hW (by rw [hk9]) rfl (fun h => MW.cast (S1 := uS (uA S 3 (putP (S.1 3) (S.1 0) (179 * v.toNatClampNeg) 179)) 15 (nI 0)) h ⟨rfl, rfl, rfl, rfl, rfl, rfl, rfl, rfl, rfl, rfl, rfl, rfl, rfl, rfl, rfl, rfl, rfl⟩)
          refine lv_aload_n hx hb dX5_keep_58 rfl (lv_at hl 0 rfl) ?_
          refine lv_aload_n hx hb dX5_keep_59 rfl (lv_at hl 0 rfl) ?_
          refine mg_155 X rfl hW dX5_keep_60 (W.stk (w := (bI hf)) hF ?_)
          refine b_ifne (tgt := 70) X dX5_keep_63 (by decide) (fun c_63 => ?_) (fun c_63 => ?_)
          ·
            refine lv_iconst (v := nI 1) hx hb dX5_keep_70 (by decide) ?_
            refine W.stk (w := (bI (hf || decide (v = nI 0)))) (by simp [nI_0, c_7, c_24, c_63] <;> rfl) ?_
            refine lv_goto (tgt := 75) hx hb dX5_keep_71 (by decide) ?_
            refine mp_155 X rfl hL hW (narrow_bI _) (fits_bI _) dX5_keep_75 (fun H locs hL hW hO1 => ?_)
            have hO := hO.trans hO1
            have hW := MW.cast (S1 := uS (uS (uA S 3 (putP (S.1 3) (S.1 0) (179 * v.toNatClampNeg) 179)) 10 (bI (hf || decide (v = nI 0)))) 15 (nI 0)) hW ⟨rfl, rfl, rfl, rfl, rfl, rfl, rfl, rfl, rfl, rfl, rfl, rfl, rfl, rfl, rfl, rfl, rfl⟩
            refine lv_aload_n hx hb dX5_keep_78 rfl (lv_at hl 0 rfl) ?_
            refine lv_aload_n hx hb dX5_keep_79 rfl (lv_at hl 0 rfl) ?_
            refine mg_159 X rfl hW dX5_keep_80 (W.stk (w := (bI hs)) hG ?_)
            refine b_ifne (tgt := 91) X dX5_keep_83 (by decide) (fun c_83 => ?_) (fun c_83 => ?_)
            ·
              refine lv_iconst (v := nI 1) hx hb dX5_keep_91 (by decide) ?_
              refine W.stk (w := (bI (hs || decide (v = nI 1)))) (by rw [c_83]; rfl) ?_
              refine lv_goto (tgt := 96) hx hb dX5_keep_92 (by decide) ?_
              refine mp_159 X rfl hL hW (narrow_bI _) (fits_bI _) dX5_keep_96 (fun H locs hL hW hO1 => ?_)
              have hO := hO.trans hO1
              have hW := MW.cast (S1 := uS (uS (uS (uA S 3 (putP (S.1 3) (S.1 0) (179 * v.toNatClampNeg) 179)) 10 (bI (hf || decide (v = nI 0)))) 11 (bI (hs || decide (v = nI 1)))) 15 (nI 0)) hW ⟨rfl, rfl, rfl, rfl, rfl, rfl, rfl, rfl, rfl, rfl, rfl, rfl, rfl, rfl, rfl, rfl, rfl⟩
              exact r_vret X hL dX5_keep_99 (by omega) (by omega) ⟨uS (uS (uS (uA S 3 (putP (S.1 3) (S.1 0) (179 * v.toNatClampNeg) 179)) 10 (bI (hf || decide (v = nI 0)))) 11 (bI (hs || decide (v = nI 1)))) 15 (nI 0), AP.mk (t := 0) (v := none) (X := uS (uS (uA S 3 (if inB v (nI 0) (nI 1) then putP (S.1 3) (S.1 0) (179 * v.toNatClampNeg) 179 else S.1 3)) 10 (bI (hf || decide (v = nI 0)))) 11 (bI (hs || decide (v = nI 1)))) (by simp [s_keep, c_7]) ⟨rfl, rfl, (by first | exact (if_pos c_7).symm | exact (if_neg (by rw [c_7]; decide)).symm), rfl, rfl, rfl, rfl, rfl⟩ rfl rfl, hW, hO⟩
            ·
              refine lv_iload_n hx hb dX5_keep_86 rfl (lv_at hl 1 rfl) ?_
              refine lv_iconst (v := nI 1) hx hb dX5_keep_87 (by decide) ?_
              refine lv_icmp_ne (tgt := 95) hx hb dX5_keep_88 (by decide) (fun c_88 => ?_) (fun c_88 => ?_)
              ·
                refine lv_iconst (v := nI 0) hx hb dX5_keep_95 (by decide) ?_
                refine W.stk (w := (bI (hs || decide (v = nI 1)))) (by rw [c_83, decide_eq_false c_88]; rfl) ?_
                refine mp_159 X rfl hL hW (narrow_bI _) (fits_bI _) dX5_keep_96 (fun H locs hL hW hO1 => ?_)
                have hO := hO.trans hO1
                have hW := MW.cast (S1 := uS (uS (uS (uA S 3 (putP (S.1 3) (S.1 0) (179 * v.toNatClampNeg) 179)) 10 (bI (hf || decide (v = nI 0)))) 11 (bI (hs || decide (v = nI 1)))) 15 (nI 0)) hW ⟨rfl, rfl, rfl, rfl, rfl, rfl, rfl, rfl, rfl, rfl, rfl, rfl, rfl, rfl, rfl, rfl, rfl⟩
                exact r_vret X hL dX5_keep_99 (by omega) (by omega) ⟨uS (uS (uS (uA S 3 (putP (S.1 3) (S.1 0) (179 * v.toNatClampNeg) 179)) 10 (bI (hf || decide (v = nI 0)))) 11 (bI (hs || decide (v = nI 1)))) 15 (nI 0), AP.mk (t := 0) (v := none) (X := uS (uS (uA S 3 (if inB v (nI 0) (nI 1) then putP (S.1 3) (S.1 0) (179 * v.toNatClampNeg) 179 else S.1 3)) 10 (bI (hf || decide (v = nI 0)))) 11 (bI (hs || decide (v = nI 1)))) (by simp [s_keep, c_7]) ⟨rfl, rfl, (by first | exact (if_pos c_7).symm | exact (if_neg (by rw [c_7]; decide)).symm), rfl, rfl, rfl, rfl, rfl⟩ rfl rfl, hW, hO⟩
              ·
                refine lv_iconst (v := nI 1) hx hb dX5_keep_91 (by decide) ?_
                refine W.stk (w := (bI (hs || decide (v = nI 1)))) (by rw [c_83, c_88]; rfl) ?_
                refine lv_goto (tgt := 96) hx hb dX5_keep_92 (by decide) ?_
                refine mp_159 X rfl hL hW (narrow_bI _) (fits_bI _) dX5_keep_96 (fun H locs hL hW hO1 => ?_)
                have hO := hO.trans hO1
                have hW := MW.cast (S1 := uS (uS (uS (uA S 3 (putP (S.1 3) (S.1 0) (179 * v.toNatClampNeg) 179)) 10 (bI (hf || decide (v = nI 0)))) 11 (bI (hs || decide (v = nI 1)))) 15 (nI 0)) hW ⟨rfl, rfl, rfl, rfl, rfl, rfl, rfl, rfl, rfl, rfl, rfl, rfl, rfl, rfl, rfl, rfl, rfl⟩
                exact r_vret X hL dX5_keep_99 (by omega) (by omega) ⟨uS (uS (uS (uA S 3 (putP (S.1 3) (S.1 0) (179 * v.toNatClampNeg) 179)) 10 (bI (hf || decide (v = nI 0)))) 11 (bI (hs || decide (v = nI 1)))) 15 (nI 0), AP.mk (t := 0) (v := none) (X := uS (uS (uA S 3 (if inB v (nI 0) (nI 1) then putP (S.1 3) (S.1 0) (179 * v.toNatClampNeg) 179 else S.1 3)) 10 (bI (hf || decide (v = nI 0)))) 11 (bI (hs || decide (v = nI 1)))) (by simp [s_keep, c_7]) ⟨rfl, rfl, (by first | exact (if_pos c_7).symm | exact (if_neg (by rw [c_7]; decide)).symm), rfl, rfl, rfl, rfl, rfl⟩ rfl rfl, hW, hO⟩
          ·
            refine lv_iload_n hx hb dX5_keep_66 rfl (lv_at hl 1 rfl) ?_
            refine lv_if_ne (tgt := 74) hx hb dX5_keep_67 (by decide) (fun c_67 => ?_) (fun c_67 => ?_)
            ·
              refine lv_iconst (v := nI 0) hx hb dX5_keep_74 (by decide) ?_
              refine W.stk (w := (bI (hf || decide (v = nI 0)))) (by simp [nI_0, c_7, c_24, c_63, c_67] <;> rfl) ?_
              refine mp_155 X rfl hL hW (narrow_bI _) (fits_bI _) dX5_keep_75 (fun H locs hL hW hO1 => ?_)
              have hO := hO.trans hO1
              have hW := MW.cast (S1 := uS (uS (uA S 3 (putP (S.1 3) (S.1 0) (179 * v.toNatClampNeg) 179)) 10 (bI (hf || decide (v = nI 0)))) 15 (nI 0)) hW ⟨rfl, rfl, rfl, rfl, rfl, rfl, rfl, rfl, rfl, rfl, rfl, rfl, rfl, rfl, rfl, rfl, rfl⟩
              refine lv_aload_n hx hb dX5_keep_78 rfl (lv_at hl 0 rfl) ?_
              refine lv_aload_n hx hb dX5_keep_79 rfl (lv_at hl 0 rfl) ?_
              refine mg_159 X rfl hW dX5_keep_80 (W.stk (w := (bI hs)) hG ?_)
              refine b_ifne (tgt := 91) X dX5_keep_83 (by decide) (fun c_83 => ?_) (fun c_83 => ?_)
              ·
                refine lv_iconst (v := nI 1) hx hb dX5_keep_91 (by decide) ?_
                refine W.stk (w := (bI (hs || decide (v = nI 1)))) (by rw [c_83]; rfl) ?_
                refine lv_goto (tgt := 96) hx hb dX5_keep_92 (by decide) ?_
                refine mp_159 X rfl hL hW (narrow_bI _) (fits_bI _) dX5_keep_96 (fun H locs hL hW hO1 => ?_)
                have hO := hO.trans hO1
                have hW := MW.cast (S1 := uS (uS (uS (uA S 3 (putP (S.1 3) (S.1 0) (179 * v.toNatClampNeg) 179)) 10 (bI (hf || decide (v = nI 0)))) 11 (bI (hs || decide (v = nI 1)))) 15 (nI 0)) hW ⟨rfl, rfl, rfl, rfl, rfl, rfl, rfl, rfl, rfl, rfl, rfl, rfl, rfl, rfl, rfl, rfl, rfl⟩
                exact r_vret X hL dX5_keep_99 (by omega) (by omega) ⟨uS (uS (uS (uA S 3 (putP (S.1 3) (S.1 0) (179 * v.toNatClampNeg) 179)) 10 (bI (hf || decide (v = nI 0)))) 11 (bI (hs || decide (v = nI 1)))) 15 (nI 0), AP.mk (t := 0) (v := none) (X := uS (uS (uA S 3 (if inB v (nI 0) (nI 1) then putP (S.1 3) (S.1 0) (179 * v.toNatClampNeg) 179 else S.1 3)) 10 (bI (hf || decide (v = nI 0)))) 11 (bI (hs || decide (v = nI 1)))) (by simp [s_keep, c_7]) ⟨rfl, rfl, (by first | exact (if_pos c_7).symm | exact (if_neg (by rw [c_7]; decide)).symm), rfl, rfl, rfl, rfl, rfl⟩ rfl rfl, hW, hO⟩
              ·
                refine lv_iload_n hx hb dX5_keep_86 rfl (lv_at hl 1 rfl) ?_
                refine lv_iconst (v := nI 1) hx hb dX5_keep_87 (by decide) ?_
                refine lv_icmp_ne (tgt := 95) hx hb dX5_keep_88 (by decide) (fun c_88 => ?_) (fun c_88 => ?_)
                ·
                  refine lv_iconst (v := nI 0) hx hb dX5_keep_95 (by decide) ?_
                  refine W.stk (w := (bI (hs || decide (v = nI 1)))) (by rw [c_83, decide_eq_false c_88]; rfl) ?_
                  refine mp_159 X rfl hL hW (narrow_bI _) (fits_bI _) dX5_keep_96 (fun H locs hL hW hO1 => ?_)
                  have hO := hO.trans hO1
                  have hW := MW.cast (S1 := uS (uS (uS (uA S 3 (putP (S.1 3) (S.1 0) (179 * v.toNatClampNeg) 179)) 10 (bI (hf || decide (v = nI 0)))) 11 (bI (hs || decide (v = nI 1)))) 15 (nI 0)) hW ⟨rfl, rfl, rfl, rfl, rfl, rfl, rfl, rfl, rfl, rfl, rfl, rfl, rfl, rfl, rfl, rfl, rfl⟩
                  exact r_vret X hL dX5_keep_99 (by omega) (by omega) ⟨uS (uS (uS (uA S 3 (putP (S.1 3) (S.1 0) (179 * v.toNatClampNeg) 179)) 10 (bI (hf || decide (v = nI 0)))) 11 (bI (hs || decide (v = nI 1)))) 15 (nI 0), AP.mk (t := 0) (v := none) (X := uS (uS (uA S 3 (if inB v (nI 0) (nI 1) then putP (S.1 3) (S.1 0) (179 * v.toNatClampNeg) 179 else S.1 3)) 10 (bI (hf || decide (v = nI 0)))) 11 (bI (hs || decide (v = nI 1)))) (by simp [s_keep, c_7]) ⟨rfl, rfl, (by first | exact (if_pos c_7).symm | exact (if_neg (by rw [c_7]; decide)).symm), rfl, rfl, rfl, rfl, rfl⟩ rfl rfl, hW, hO⟩
                ·
                  refine lv_iconst (v := nI 1) hx hb dX5_keep_91 (by decide) ?_
                  refine W.stk (w := (bI (hs || decide (v = nI 1)))) (by rw [c_83, c_88]; rfl) ?_
                  refine lv_goto (tgt := 96) hx hb dX5_keep_92 (by decide) ?_
                  refine mp_159 X rfl hL hW (narrow_bI _) (fits_bI _) dX5_keep_96 (fun H locs hL hW hO1 => ?_)
                  have hO := hO.trans hO1
                  have hW := MW.cast (S1 := uS (uS (uS (uA S 3 (putP (S.1 3) (S.1 0) (179 * v.toNatClampNeg) 179)) 10 (bI (hf || decide (v = nI 0)))) 11 (bI (hs || decide (v = nI 1)))) 15 (nI 0)) hW ⟨rfl, rfl, rfl, rfl, rfl, rfl, rfl, rfl, rfl, rfl, rfl, rfl, rfl, rfl, rfl, rfl, rfl⟩
                  exact r_vret X hL dX5_keep_99 (by omega) (by omega) ⟨uS (uS (uS (uA S 3 (putP (S.1 3) (S.1 0) (179 * v.toNatClampNeg) 179)) 10 (bI (hf || decide (v = nI 0)))) 11 (bI (hs || decide (v = nI 1)))) 15 (nI 0), AP.mk (t := 0) (v := none) (X := uS (uS (uA S 3 (if inB v (nI 0) (nI 1) then putP (S.1 3) (S.1 0) (179 * v.toNatClampNeg) 179 else S.1 3)) 10 (bI (hf || decide (v = nI 0)))) 11 (bI (hs || decide (v = nI 1)))) (by simp [s_keep, c_7]) ⟨rfl, rfl, (by first | exact (if_pos c_7).symm | exact (if_neg (by rw [c_7]; decide)).symm), rfl, rfl, rfl, rfl, rfl⟩ rfl rfl, hW, hO⟩
            ·
              refine lv_iconst (v := nI 1) hx hb dX5_keep_70 (by decide) ?_
              refine W.stk (w := (bI (hf || decide (v = nI 0)))) (by simp [nI_0, c_7, c_24, c_63, c_67] <;> rfl) ?_
              refine lv_goto (tgt := 75) hx hb dX5_keep_71 (by decide) ?_
              refine mp_155 X rfl hL hW (narrow_bI _) (fits_bI _) dX5_keep_75 (fun H locs hL hW hO1 => ?_)
              have hO := hO.trans hO1
              have hW := MW.cast (S1 := uS (uS (uA S 3 (putP (S.1 3) (S.1 0) (179 * v.toNatClampNeg) 179)) 10 (bI (hf || decide (v = nI 0)))) 15 (nI 0)) hW ⟨rfl, rfl, rfl, rfl, rfl, rfl, rfl, rfl, rfl, rfl, rfl, rfl, rfl, rfl, rfl, rfl, rfl⟩
              refine lv_aload_n hx hb dX5_keep_78 rfl (lv_at hl 0 rfl) ?_
              refine lv_aload_n hx hb dX5_keep_79 rfl (lv_at hl 0 rfl) ?_
              refine mg_159 X rfl hW dX5_keep_80 (W.stk (w := (bI hs)) hG ?_)
              refine b_ifne (tgt := 91) X dX5_keep_83 (by decide) (fun c_83 => ?_) (fun c_83 => ?_)
              ·
                refine lv_iconst (v := nI 1) hx hb dX5_keep_91 (by decide) ?_
                refine W.stk (w := (bI (hs || decide (v = nI 1)))) (by rw [c_83]; rfl) ?_
                refine lv_goto (tgt := 96) hx hb dX5_keep_92 (by decide) ?_
                refine mp_159 X rfl hL hW (narrow_bI _) (fits_bI _) dX5_keep_96 (fun H locs hL hW hO1 => ?_)
                have hO := hO.trans hO1
                have hW := MW.cast (S1 := uS (uS (uS (uA S 3 (putP (S.1 3) (S.1 0) (179 * v.toNatClampNeg) 179)) 10 (bI (hf || decide (v = nI 0)))) 11 (bI (hs || decide (v = nI 1)))) 15 (nI 0)) hW ⟨rfl, rfl, rfl, rfl, rfl, rfl, rfl, rfl, rfl, rfl, rfl, rfl, rfl, rfl, rfl, rfl, rfl⟩
                exact r_vret X hL dX5_keep_99 (by omega) (by omega) ⟨uS (uS (uS (uA S 3 (putP (S.1 3) (S.1 0) (179 * v.toNatClampNeg) 179)) 10 (bI (hf || decide (v = nI 0)))) 11 (bI (hs || decide (v = nI 1)))) 15 (nI 0), AP.mk (t := 0) (v := none) (X := uS (uS (uA S 3 (if inB v (nI 0) (nI 1) then putP (S.1 3) (S.1 0) (179 * v.toNatClampNeg) 179 else S.1 3)) 10 (bI (hf || decide (v = nI 0)))) 11 (bI (hs || decide (v = nI 1)))) (by simp [s_keep, c_7]) ⟨rfl, rfl, (by first | exact (if_pos c_7).symm | exact (if_neg (by rw [c_7]; decide)).symm), rfl, rfl, rfl, rfl, rfl⟩ rfl rfl, hW, hO⟩
              ·
                refine lv_iload_n hx hb dX5_keep_86 rfl (lv_at hl 1 rfl) ?_
                refine lv_iconst (v := nI 1) hx hb dX5_keep_87 (by decide) ?_
                refine lv_icmp_ne (tgt := 95) hx hb dX5_keep_88 (by decide) (fun c_88 => ?_) (fun c_88 => ?_)
                ·
                  refine lv_iconst (v := nI 0) hx hb dX5_keep_95 (by decide) ?_
                  refine W.stk (w := (bI (hs || decide (v = nI 1)))) (by rw [c_83, decide_eq_false c_88]; rfl) ?_
                  refine mp_159 X rfl hL hW (narrow_bI _) (fits_bI _) dX5_keep_96 (fun H locs hL hW hO1 => ?_)
                  have hO := hO.trans hO1
                  have hW := MW.cast (S1 := uS (uS (uS (uA S 3 (putP (S.1 3) (S.1 0) (179 * v.toNatClampNeg) 179)) 10 (bI (hf || decide (v = nI 0)))) 11 (bI (hs || decide (v = nI 1)))) 15 (nI 0)) hW ⟨rfl, rfl, rfl, rfl, rfl, rfl, rfl, rfl, rfl, rfl, rfl, rfl, rfl, rfl, rfl, rfl, rfl⟩
                  exact r_vret X hL dX5_keep_99 (by omega) (by omega) ⟨uS (uS (uS (uA S 3 (putP (S.1 3) (S.1 0) (179 * v.toNatClampNeg) 179)) 10 (bI (hf || decide (v = nI 0)))) 11 (bI (hs || decide (v = nI 1)))) 15 (nI 0), AP.mk (t := 0) (v := none) (X := uS (uS (uA S 3 (if inB v (nI 0) (nI 1) then putP (S.1 3) (S.1 0) (179 * v.toNatClampNeg) 179 else S.1 3)) 10 (bI (hf || decide (v = nI 0)))) 11 (bI (hs || decide (v = nI 1)))) (by simp [s_keep, c_7]) ⟨rfl, rfl, (by first | exact (if_pos c_7).symm | exact (if_neg (by rw [c_7]; decide)).symm), rfl, rfl, rfl, rfl, rfl⟩ rfl rfl, hW, hO⟩
                ·
                  refine lv_iconst (v := nI 1) hx hb dX5_keep_91 (by decide) ?_
                  refine W.stk (w := (bI (hs || decide (v = nI 1)))) (by rw [c_83, c_88]; rfl) ?_
                  refine lv_goto (tgt := 96) hx hb dX5_keep_92 (by decide) ?_
                  refine mp_159 X rfl hL hW (narrow_bI _) (fits_bI _) dX5_keep_96 (fun H locs hL hW hO1 => ?_)
                  have hO := hO.trans hO1
                  have hW := MW.cast (S1 := uS (uS (uS (uA S 3 (putP (S.1 3) (S.1 0) (179 * v.toNatClampNeg) 179)) 10 (bI (hf || decide (v = nI 0)))) 11 (bI (hs || decide (v = nI 1)))) 15 (nI 0)) hW ⟨rfl, rfl, rfl, rfl, rfl, rfl, rfl, rfl, rfl, rfl, rfl, rfl, rfl, rfl, rfl, rfl, rfl⟩
                  exact r_vret X hL dX5_keep_99 (by omega) (by omega) ⟨uS (uS (uS (uA S 3 (putP (S.1 3) (S.1 0) (179 * v.toNatClampNeg) 179)) 10 (bI (hf || decide (v = nI 0)))) 11 (bI (hs || decide (v = nI 1)))) 15 (nI 0), AP.mk (t := 0) (v := none) (X := uS (uS (uA S 3 (if inB v (nI 0) (nI 1) then putP (S.1 3) (S.1 0) (179 * v.toNatClampNeg) 179 else S.1 3)) 10 (bI (hf || decide (v = nI 0)))) 11 (bI (hs || decide (v = nI 1)))) (by simp [s_keep, c_7]) ⟨rfl, rfl, (by first | exact (if_pos c_7).symm | exact (if_neg (by rw [c_7]; decide)).symm), rfl, rfl, rfl, rfl, rfl⟩ rfl rfl, hW, hO⟩
        ·
          refine lv_aload_n hx hb dX5_keep_27 rfl (lv_at hl 0 rfl) ?_
          refine mg_38 X rfl hW dX5_keep_28 (W.stk (w := (nI 0)) rfl ?_)
          refine n_ifne (tgt := 58) X dX5_keep_31 (by decide) (by omega) (fun c_31 => ?_) (fun c_31 => ?_)
          ·
            exact absurd c_31 (by decide)
          ·
            refine lv_aload_n hx hb dX5_keep_34 rfl (lv_at hl 0 rfl) ?_
            refine mg_19 X rfl hW dX5_keep_35 ?_
            refine lv_sipush (v := nI 179) hx hb dX5_keep_38 (by decide) ?_
            refine lv_iload_n hx hb dX5_keep_41 rfl (lv_at hl 1 rfl) ?_
            refine W.stk (w := (nI v.toNatClampNeg)) hvc ?_
            refine n_imul X dX5_keep_42 ?_
            refine lv_iload_n hx hb dX5_keep_43 rfl (lv_at hl 2 rfl) ?_
            refine n_iadd X dX5_keep_44 ?_
            refine lv_aload_n hx hb dX5_keep_45 rfl (lv_at hl 0 rfl) ?_
            refine mg_7 X rfl hW dX5_keep_46 ?_
            refine lv_iload_n hx hb dX5_keep_49 rfl (lv_at hl 2 rfl) ?_
            refine m_ld (v := ((S.1 0) k)) X hW 0 (by decide) rfl k rfl (by show k < 179; omega) rfl dX5_keep_50 ?_
            refine m_st X hL hW 3 (by decide) rfl ((179 * v.toNatClampNeg) + k) rfl (by show (179 * v.toNatClampNeg) + k < 358; omega) dX5_keep_51 (fun H locs hL hW hO1 => ?_)
            have hO := hO.trans hO1
            have hW := MW.cast (S1 := uS (uA S 3 (upd (putP (S.1 3) (S.1 0) (179 * v.toNatClampNeg) k) ((179 * v.toNatClampNeg) + k) ((S.1 0) k))) 15 (nI 0)) hW ⟨rfl, rfl, rfl, rfl, rfl, rfl, rfl, rfl, rfl, rfl, rfl, rfl, rfl, rfl, rfl, rfl, rfl⟩
            have hW := MW.eqA (k := 3) (f := upd (putP (S.1 3) (S.1 0) (179 * v.toNatClampNeg) k) ((179 * v.toNatClampNeg) + k) ((S.1 0) k)) (f1 := putP (S.1 3) (S.1 0) (179 * v.toNatClampNeg) (k + 1)) hW (putP_s _ _ _ _) rfl (fun h => MW.cast (S1 := uS (uA S 3 (putP (S.1 3) (S.1 0) (179 * v.toNatClampNeg) (k + 1))) 15 (nI 0)) h ⟨rfl, rfl, rfl, rfl, rfl, rfl, rfl, rfl, rfl, rfl, rfl, rfl, rfl, rfl, rfl, rfl, rfl⟩)
            refine lv_iinc (v := nI (k + 1)) (lv' := [(2, .int _), (0, .ref _), (1, .int _)]) hx hb dX5_keep_52 hl (k := 2) rfl (nI_iinc _ 1 rfl) (by decide) rfl (fun ls hl => ?_)
            refine lv_goto (tgt := 20) hx hb dX5_keep_55 (by decide) ?_
            exact ih20 _ (by omega) (by omega) _ hW hO _ hL ls (lv_sub hl [1, 2, 0] rfl)
    exact L20 180 0 (by omega) (by omega) _ (MW.cast hW ⟨rfl, rfl, rfl, (putP_0 (S.1 3) (S.1 0) (179 * v.toNatClampNeg)).symm, rfl, rfl, rfl, rfl, rfl, rfl, rfl, rfl, rfl, rfl, rfl, rfl, rfl⟩) hO _ hL ls (lv_sub hl [1, 2, 0] rfl)
  ·
    refine lv_iconst (v := nI 1) hx hb dX5_keep_10 (by decide) ?_
    refine lv_goto (tgt := 15) hx hb dX5_keep_11 (by decide) ?_
    refine mp_38 X rfl hL hW dX5_keep_15 (fun H locs hL hW hO1 => ?_)
    have hO := hO.trans hO1
    have hW := MW.cast (S1 := uS S 15 (nI 1)) hW ⟨rfl, rfl, rfl, rfl, rfl, rfl, rfl, rfl, rfl, rfl, rfl, rfl, rfl, rfl, rfl, rfl, rfl⟩
    refine lv_iconst (v := nI 0) hx hb dX5_keep_18 (by decide) ?_
    refine lv_istore_n (lv' := [(2, .int _), (0, .ref _), (1, .int _)]) hx hb dX5_keep_19 rfl hl (by decide) rfl (fun ls hl => ?_)
    refine lv_iload_n hx hb dX5_keep_20 rfl (lv_at hl 0 rfl) ?_
    refine lv_sipush (v := nI 179) hx hb dX5_keep_21 (by decide) ?_
    refine n_icmp_ge (tgt := 58) X dX5_keep_24 (by decide) (by omega) (by omega) (fun c_24 => ?_) (fun c_24 => ?_)
    ·
      exact absurd c_24 (by decide)
    ·
      refine lv_aload_n hx hb dX5_keep_27 rfl (lv_at hl 1 rfl) ?_
      refine mg_38 X rfl hW dX5_keep_28 (W.stk (w := (nI 1)) rfl ?_)
      refine n_ifne (tgt := 58) X dX5_keep_31 (by decide) (by omega) (fun c_31 => ?_) (fun c_31 => ?_)
      ·
        refine lv_aload_n hx hb dX5_keep_58 rfl (lv_at hl 1 rfl) ?_
        refine lv_aload_n hx hb dX5_keep_59 rfl (lv_at hl 1 rfl) ?_
        refine mg_155 X rfl hW dX5_keep_60 (W.stk (w := (bI hf)) hF ?_)
        refine b_ifne (tgt := 70) X dX5_keep_63 (by decide) (fun c_63 => ?_) (fun c_63 => ?_)
        ·
          refine lv_iconst (v := nI 1) hx hb dX5_keep_70 (by decide) ?_
          refine W.stk (w := (bI (hf || decide (v = nI 0)))) (by simp [nI_0, c_7, c_63] <;> rfl) ?_
          refine lv_goto (tgt := 75) hx hb dX5_keep_71 (by decide) ?_
          refine mp_155 X rfl hL hW (narrow_bI _) (fits_bI _) dX5_keep_75 (fun H locs hL hW hO1 => ?_)
          have hO := hO.trans hO1
          have hW := MW.cast (S1 := uS (uS S 10 (bI (hf || decide (v = nI 0)))) 15 (nI 1)) hW ⟨rfl, rfl, rfl, rfl, rfl, rfl, rfl, rfl, rfl, rfl, rfl, rfl, rfl, rfl, rfl, rfl, rfl⟩
          refine lv_aload_n hx hb dX5_keep_78 rfl (lv_at hl 1 rfl) ?_
          refine lv_aload_n hx hb dX5_keep_79 rfl (lv_at hl 1 rfl) ?_
          refine mg_159 X rfl hW dX5_keep_80 (W.stk (w := (bI hs)) hG ?_)
          refine b_ifne (tgt := 91) X dX5_keep_83 (by decide) (fun c_83 => ?_) (fun c_83 => ?_)
          ·
            refine lv_iconst (v := nI 1) hx hb dX5_keep_91 (by decide) ?_
            refine W.stk (w := (bI (hs || decide (v = nI 1)))) (by rw [c_83]; rfl) ?_
            refine lv_goto (tgt := 96) hx hb dX5_keep_92 (by decide) ?_
            refine mp_159 X rfl hL hW (narrow_bI _) (fits_bI _) dX5_keep_96 (fun H locs hL hW hO1 => ?_)
            have hO := hO.trans hO1
            have hW := MW.cast (S1 := uS (uS (uS S 10 (bI (hf || decide (v = nI 0)))) 11 (bI (hs || decide (v = nI 1)))) 15 (nI 1)) hW ⟨rfl, rfl, rfl, rfl, rfl, rfl, rfl, rfl, rfl, rfl, rfl, rfl, rfl, rfl, rfl, rfl, rfl⟩
            exact r_vret X hL dX5_keep_99 (by omega) (by omega) ⟨uS (uS (uS S 10 (bI (hf || decide (v = nI 0)))) 11 (bI (hs || decide (v = nI 1)))) 15 (nI 1), AP.mk (t := 1) (v := none) (X := uS (uS (uA S 3 (if inB v (nI 0) (nI 1) then putP (S.1 3) (S.1 0) (179 * v.toNatClampNeg) 179 else S.1 3)) 10 (bI (hf || decide (v = nI 0)))) 11 (bI (hs || decide (v = nI 1)))) (by simp [s_keep, c_7]) ⟨rfl, rfl, (by first | exact (if_pos c_7).symm | exact (if_neg (by rw [c_7]; decide)).symm), rfl, rfl, rfl, rfl, rfl⟩ rfl rfl, hW, hO⟩
          ·
            refine lv_iload_n hx hb dX5_keep_86 rfl (lv_at hl 2 rfl) ?_
            refine lv_iconst (v := nI 1) hx hb dX5_keep_87 (by decide) ?_
            refine lv_icmp_ne (tgt := 95) hx hb dX5_keep_88 (by decide) (fun c_88 => ?_) (fun c_88 => ?_)
            ·
              refine lv_iconst (v := nI 0) hx hb dX5_keep_95 (by decide) ?_
              refine W.stk (w := (bI (hs || decide (v = nI 1)))) (by rw [c_83, decide_eq_false c_88]; rfl) ?_
              refine mp_159 X rfl hL hW (narrow_bI _) (fits_bI _) dX5_keep_96 (fun H locs hL hW hO1 => ?_)
              have hO := hO.trans hO1
              have hW := MW.cast (S1 := uS (uS (uS S 10 (bI (hf || decide (v = nI 0)))) 11 (bI (hs || decide (v = nI 1)))) 15 (nI 1)) hW ⟨rfl, rfl, rfl, rfl, rfl, rfl, rfl, rfl, rfl, rfl, rfl, rfl, rfl, rfl, rfl, rfl, rfl⟩
              exact r_vret X hL dX5_keep_99 (by omega) (by omega) ⟨uS (uS (uS S 10 (bI (hf || decide (v = nI 0)))) 11 (bI (hs || decide (v = nI 1)))) 15 (nI 1), AP.mk (t := 1) (v := none) (X := uS (uS (uA S 3 (if inB v (nI 0) (nI 1) then putP (S.1 3) (S.1 0) (179 * v.toNatClampNeg) 179 else S.1 3)) 10 (bI (hf || decide (v = nI 0)))) 11 (bI (hs || decide (v = nI 1)))) (by simp [s_keep, c_7]) ⟨rfl, rfl, (by first | exact (if_pos c_7).symm | exact (if_neg (by rw [c_7]; decide)).symm), rfl, rfl, rfl, rfl, rfl⟩ rfl rfl, hW, hO⟩
            ·
              refine lv_iconst (v := nI 1) hx hb dX5_keep_91 (by decide) ?_
              refine W.stk (w := (bI (hs || decide (v = nI 1)))) (by rw [c_83, c_88]; rfl) ?_
              refine lv_goto (tgt := 96) hx hb dX5_keep_92 (by decide) ?_
              refine mp_159 X rfl hL hW (narrow_bI _) (fits_bI _) dX5_keep_96 (fun H locs hL hW hO1 => ?_)
              have hO := hO.trans hO1
              have hW := MW.cast (S1 := uS (uS (uS S 10 (bI (hf || decide (v = nI 0)))) 11 (bI (hs || decide (v = nI 1)))) 15 (nI 1)) hW ⟨rfl, rfl, rfl, rfl, rfl, rfl, rfl, rfl, rfl, rfl, rfl, rfl, rfl, rfl, rfl, rfl, rfl⟩
              exact r_vret X hL dX5_keep_99 (by omega) (by omega) ⟨uS (uS (uS S 10 (bI (hf || decide (v = nI 0)))) 11 (bI (hs || decide (v = nI 1)))) 15 (nI 1), AP.mk (t := 1) (v := none) (X := uS (uS (uA S 3 (if inB v (nI 0) (nI 1) then putP (S.1 3) (S.1 0) (179 * v.toNatClampNeg) 179 else S.1 3)) 10 (bI (hf || decide (v = nI 0)))) 11 (bI (hs || decide (v = nI 1)))) (by simp [s_keep, c_7]) ⟨rfl, rfl, (by first | exact (if_pos c_7).symm | exact (if_neg (by rw [c_7]; decide)).symm), rfl, rfl, rfl, rfl, rfl⟩ rfl rfl, hW, hO⟩
        ·
          refine lv_iload_n hx hb dX5_keep_66 rfl (lv_at hl 2 rfl) ?_
          refine lv_if_ne (tgt := 74) hx hb dX5_keep_67 (by decide) (fun c_67 => ?_) (fun c_67 => ?_)
          ·
            refine lv_iconst (v := nI 0) hx hb dX5_keep_74 (by decide) ?_
            refine W.stk (w := (bI (hf || decide (v = nI 0)))) (by simp [nI_0, c_7, c_63, c_67] <;> rfl) ?_
            refine mp_155 X rfl hL hW (narrow_bI _) (fits_bI _) dX5_keep_75 (fun H locs hL hW hO1 => ?_)
            have hO := hO.trans hO1
            have hW := MW.cast (S1 := uS (uS S 10 (bI (hf || decide (v = nI 0)))) 15 (nI 1)) hW ⟨rfl, rfl, rfl, rfl, rfl, rfl, rfl, rfl, rfl, rfl, rfl, rfl, rfl, rfl, rfl, rfl, rfl⟩
            refine lv_aload_n hx hb dX5_keep_78 rfl (lv_at hl 1 rfl) ?_
            refine lv_aload_n hx hb dX5_keep_79 rfl (lv_at hl 1 rfl) ?_
            refine mg_159 X rfl hW dX5_keep_80 (W.stk (w := (bI hs)) hG ?_)
            refine b_ifne (tgt := 91) X dX5_keep_83 (by decide) (fun c_83 => ?_) (fun c_83 => ?_)
            ·
              refine lv_iconst (v := nI 1) hx hb dX5_keep_91 (by decide) ?_
              refine W.stk (w := (bI (hs || decide (v = nI 1)))) (by rw [c_83]; rfl) ?_
              refine lv_goto (tgt := 96) hx hb dX5_keep_92 (by decide) ?_
              refine mp_159 X rfl hL hW (narrow_bI _) (fits_bI _) dX5_keep_96 (fun H locs hL hW hO1 => ?_)
              have hO := hO.trans hO1
              have hW := MW.cast (S1 := uS (uS (uS S 10 (bI (hf || decide (v = nI 0)))) 11 (bI (hs || decide (v = nI 1)))) 15 (nI 1)) hW ⟨rfl, rfl, rfl, rfl, rfl, rfl, rfl, rfl, rfl, rfl, rfl, rfl, rfl, rfl, rfl, rfl, rfl⟩
              exact r_vret X hL dX5_keep_99 (by omega) (by omega) ⟨uS (uS (uS S 10 (bI (hf || decide (v = nI 0)))) 11 (bI (hs || decide (v = nI 1)))) 15 (nI 1), AP.mk (t := 1) (v := none) (X := uS (uS (uA S 3 (if inB v (nI 0) (nI 1) then putP (S.1 3) (S.1 0) (179 * v.toNatClampNeg) 179 else S.1 3)) 10 (bI (hf || decide (v = nI 0)))) 11 (bI (hs || decide (v = nI 1)))) (by simp [s_keep, c_7]) ⟨rfl, rfl, (by first | exact (if_pos c_7).symm | exact (if_neg (by rw [c_7]; decide)).symm), rfl, rfl, rfl, rfl, rfl⟩ rfl rfl, hW, hO⟩
            ·
              refine lv_iload_n hx hb dX5_keep_86 rfl (lv_at hl 2 rfl) ?_
              refine lv_iconst (v := nI 1) hx hb dX5_keep_87 (by decide) ?_
              refine lv_icmp_ne (tgt := 95) hx hb dX5_keep_88 (by decide) (fun c_88 => ?_) (fun c_88 => ?_)
              ·
                refine lv_iconst (v := nI 0) hx hb dX5_keep_95 (by decide) ?_
                refine W.stk (w := (bI (hs || decide (v = nI 1)))) (by rw [c_83, decide_eq_false c_88]; rfl) ?_
                refine mp_159 X rfl hL hW (narrow_bI _) (fits_bI _) dX5_keep_96 (fun H locs hL hW hO1 => ?_)
                have hO := hO.trans hO1
                have hW := MW.cast (S1 := uS (uS (uS S 10 (bI (hf || decide (v = nI 0)))) 11 (bI (hs || decide (v = nI 1)))) 15 (nI 1)) hW ⟨rfl, rfl, rfl, rfl, rfl, rfl, rfl, rfl, rfl, rfl, rfl, rfl, rfl, rfl, rfl, rfl, rfl⟩
                exact r_vret X hL dX5_keep_99 (by omega) (by omega) ⟨uS (uS (uS S 10 (bI (hf || decide (v = nI 0)))) 11 (bI (hs || decide (v = nI 1)))) 15 (nI 1), AP.mk (t := 1) (v := none) (X := uS (uS (uA S 3 (if inB v (nI 0) (nI 1) then putP (S.1 3) (S.1 0) (179 * v.toNatClampNeg) 179 else S.1 3)) 10 (bI (hf || decide (v = nI 0)))) 11 (bI (hs || decide (v = nI 1)))) (by simp [s_keep, c_7]) ⟨rfl, rfl, (by first | exact (if_pos c_7).symm | exact (if_neg (by rw [c_7]; decide)).symm), rfl, rfl, rfl, rfl, rfl⟩ rfl rfl, hW, hO⟩
              ·
                refine lv_iconst (v := nI 1) hx hb dX5_keep_91 (by decide) ?_
                refine W.stk (w := (bI (hs || decide (v = nI 1)))) (by rw [c_83, c_88]; rfl) ?_
                refine lv_goto (tgt := 96) hx hb dX5_keep_92 (by decide) ?_
                refine mp_159 X rfl hL hW (narrow_bI _) (fits_bI _) dX5_keep_96 (fun H locs hL hW hO1 => ?_)
                have hO := hO.trans hO1
                have hW := MW.cast (S1 := uS (uS (uS S 10 (bI (hf || decide (v = nI 0)))) 11 (bI (hs || decide (v = nI 1)))) 15 (nI 1)) hW ⟨rfl, rfl, rfl, rfl, rfl, rfl, rfl, rfl, rfl, rfl, rfl, rfl, rfl, rfl, rfl, rfl, rfl⟩
                exact r_vret X hL dX5_keep_99 (by omega) (by omega) ⟨uS (uS (uS S 10 (bI (hf || decide (v = nI 0)))) 11 (bI (hs || decide (v = nI 1)))) 15 (nI 1), AP.mk (t := 1) (v := none) (X := uS (uS (uA S 3 (if inB v (nI 0) (nI 1) then putP (S.1 3) (S.1 0) (179 * v.toNatClampNeg) 179 else S.1 3)) 10 (bI (hf || decide (v = nI 0)))) 11 (bI (hs || decide (v = nI 1)))) (by simp [s_keep, c_7]) ⟨rfl, rfl, (by first | exact (if_pos c_7).symm | exact (if_neg (by rw [c_7]; decide)).symm), rfl, rfl, rfl, rfl, rfl⟩ rfl rfl, hW, hO⟩
          ·
            refine lv_iconst (v := nI 1) hx hb dX5_keep_70 (by decide) ?_
            refine W.stk (w := (bI (hf || decide (v = nI 0)))) (by simp [nI_0, c_7, c_63, c_67] <;> rfl) ?_
            refine lv_goto (tgt := 75) hx hb dX5_keep_71 (by decide) ?_
            refine mp_155 X rfl hL hW (narrow_bI _) (fits_bI _) dX5_keep_75 (fun H locs hL hW hO1 => ?_)
            have hO := hO.trans hO1
            have hW := MW.cast (S1 := uS (uS S 10 (bI (hf || decide (v = nI 0)))) 15 (nI 1)) hW ⟨rfl, rfl, rfl, rfl, rfl, rfl, rfl, rfl, rfl, rfl, rfl, rfl, rfl, rfl, rfl, rfl, rfl⟩
            refine lv_aload_n hx hb dX5_keep_78 rfl (lv_at hl 1 rfl) ?_
            refine lv_aload_n hx hb dX5_keep_79 rfl (lv_at hl 1 rfl) ?_
            refine mg_159 X rfl hW dX5_keep_80 (W.stk (w := (bI hs)) hG ?_)
            refine b_ifne (tgt := 91) X dX5_keep_83 (by decide) (fun c_83 => ?_) (fun c_83 => ?_)
            ·
              refine lv_iconst (v := nI 1) hx hb dX5_keep_91 (by decide) ?_
              refine W.stk (w := (bI (hs || decide (v = nI 1)))) (by rw [c_83]; rfl) ?_
              refine lv_goto (tgt := 96) hx hb dX5_keep_92 (by decide) ?_
              refine mp_159 X rfl hL hW (narrow_bI _) (fits_bI _) dX5_keep_96 (fun H locs hL hW hO1 => ?_)
              have hO := hO.trans hO1
              have hW := MW.cast (S1 := uS (uS (uS S 10 (bI (hf || decide (v = nI 0)))) 11 (bI (hs || decide (v = nI 1)))) 15 (nI 1)) hW ⟨rfl, rfl, rfl, rfl, rfl, rfl, rfl, rfl, rfl, rfl, rfl, rfl, rfl, rfl, rfl, rfl, rfl⟩
              exact r_vret X hL dX5_keep_99 (by omega) (by omega) ⟨uS (uS (uS S 10 (bI (hf || decide (v = nI 0)))) 11 (bI (hs || decide (v = nI 1)))) 15 (nI 1), AP.mk (t := 1) (v := none) (X := uS (uS (uA S 3 (if inB v (nI 0) (nI 1) then putP (S.1 3) (S.1 0) (179 * v.toNatClampNeg) 179 else S.1 3)) 10 (bI (hf || decide (v = nI 0)))) 11 (bI (hs || decide (v = nI 1)))) (by simp [s_keep, c_7]) ⟨rfl, rfl, (by first | exact (if_pos c_7).symm | exact (if_neg (by rw [c_7]; decide)).symm), rfl, rfl, rfl, rfl, rfl⟩ rfl rfl, hW, hO⟩
            ·
              refine lv_iload_n hx hb dX5_keep_86 rfl (lv_at hl 2 rfl) ?_
              refine lv_iconst (v := nI 1) hx hb dX5_keep_87 (by decide) ?_
              refine lv_icmp_ne (tgt := 95) hx hb dX5_keep_88 (by decide) (fun c_88 => ?_) (fun c_88 => ?_)
              ·
                refine lv_iconst (v := nI 0) hx hb dX5_keep_95 (by decide) ?_
                refine W.stk (w := (bI (hs || decide (v = nI 1)))) (by rw [c_83, decide_eq_false c_88]; rfl) ?_
                refine mp_159 X rfl hL hW (narrow_bI _) (fits_bI _) dX5_keep_96 (fun H locs hL hW hO1 => ?_)
                have hO := hO.trans hO1
                have hW := MW.cast (S1 := uS (uS (uS S 10 (bI (hf || decide (v = nI 0)))) 11 (bI (hs || decide (v = nI 1)))) 15 (nI 1)) hW ⟨rfl, rfl, rfl, rfl, rfl, rfl, rfl, rfl, rfl, rfl, rfl, rfl, rfl, rfl, rfl, rfl, rfl⟩
                exact r_vret X hL dX5_keep_99 (by omega) (by omega) ⟨uS (uS (uS S 10 (bI (hf || decide (v = nI 0)))) 11 (bI (hs || decide (v = nI 1)))) 15 (nI 1), AP.mk (t := 1) (v := none) (X := uS (uS (uA S 3 (if inB v (nI 0) (nI 1) then putP (S.1 3) (S.1 0) (179 * v.toNatClampNeg) 179 else S.1 3)) 10 (bI (hf || decide (v = nI 0)))) 11 (bI (hs || decide (v = nI 1)))) (by simp [s_keep, c_7]) ⟨rfl, rfl, (by first | exact (if_pos c_7).symm | exact (if_neg (by rw [c_7]; decide)).symm), rfl, rfl, rfl, rfl, rfl⟩ rfl rfl, hW, hO⟩
              ·
                refine lv_iconst (v := nI 1) hx hb dX5_keep_91 (by decide) ?_
                refine W.stk (w := (bI (hs || decide (v = nI 1)))) (by rw [c_83, c_88]; rfl) ?_
                refine lv_goto (tgt := 96) hx hb dX5_keep_92 (by decide) ?_
                refine mp_159 X rfl hL hW (narrow_bI _) (fits_bI _) dX5_keep_96 (fun H locs hL hW hO1 => ?_)
                have hO := hO.trans hO1
                have hW := MW.cast (S1 := uS (uS (uS S 10 (bI (hf || decide (v = nI 0)))) 11 (bI (hs || decide (v = nI 1)))) 15 (nI 1)) hW ⟨rfl, rfl, rfl, rfl, rfl, rfl, rfl, rfl, rfl, rfl, rfl, rfl, rfl, rfl, rfl, rfl, rfl⟩
                exact r_vret X hL dX5_keep_99 (by omega) (by omega) ⟨uS (uS (uS S 10 (bI (hf || decide (v = nI 0)))) 11 (bI (hs || decide (v = nI 1)))) 15 (nI 1), AP.mk (t := 1) (v := none) (X := uS (uS (uA S 3 (if inB v (nI 0) (nI 1) then putP (S.1 3) (S.1 0) (179 * v.toNatClampNeg) 179 else S.1 3)) 10 (bI (hf || decide (v = nI 0)))) 11 (bI (hs || decide (v = nI 1)))) (by simp [s_keep, c_7]) ⟨rfl, rfl, (by first | exact (if_pos c_7).symm | exact (if_neg (by rw [c_7]; decide)).symm), rfl, rfl, rfl, rfl, rfl⟩ rfl rfl, hW, hO⟩
      ·
        exact absurd c_31 (by decide)
theorem vb_X5_keep : VB yX5_keep cX5_keep 3 none 1 := ⟨q2028, q2029, q111, q2030, ⟨by decide, by decide, by decide +kernel⟩⟩

set_option maxRecDepth 100000 in
set_option maxHeartbeats 4000000 in
theorem ct_X5_goBack (l : Launch) (g : GT) (o st : Nat) (S : MS) (hf hs : Bool) (v : Int32) (hst : S.2.1 12 = nI st) (hs6 : st ≤ 6) (hF : S.2.1 10 = bI hf) (hG : S.2.1 11 = bI hs) : Ct l g yX5_goBack cX5_goBack 3 none 3 0 0 [.ref o, .int v] (MW g o S) (fun r H H1 => ∃ S1, AP S1 (s_goBack S st hf hs v) r ∧ MW g o S1 H1 ∧ Off o H H1) := by
  refine Ct.of (by decide) (Nat.le_of_ble_eq_true rfl) ?_
  intro p e s m args below meth c X hP ls hl
  have hx := X.1
  have hb := X.2.1
  have hKV := X.2.2.2.2.2.2.2.1.1
  have hL : ∀ q ∈ ([] : List Loc), gLo g ≤ q.base := fun _ h => by cases h
  have hl : lv_has ls 3 [(0, .ref o), (1, .int v)] := hl
  have hW : MW g o S s.heap := hP
  have hO : Off o s.heap s.heap := Off.rfl'
  refine lv_aload_n hx hb dX5_goBack_0 rfl (lv_at hl 0 rfl) ?_
  refine lv_iload_n hx hb dX5_goBack_1 rfl (lv_at hl 1 rfl) ?_
  refine lv_iconst (v := nI 0) hx hb dX5_goBack_2 (by decide) ?_
  refine lv_iconst (v := nI 1) hx hb dX5_goBack_3 (by decide) ?_
  refine Cp.callS (v := .int (bI (inB v (nI 0) (nI 1)))) (ct_X5_in l g v (nI 0) (nI 1) ) X hL hl sb_X5_in q1885 rfl rfl (Nat.le_of_ble_eq_true rfl) dX5_goBack_4 ⟨Nat.le_of_ble_eq_true rfl, Nat.le_of_ble_eq_true rfl⟩ (by omega) (by omega) trivial (fun locs hL => ?_)
  refine b_ifne (tgt := 14) X dX5_goBack_7 (by decide) (fun c_7 => ?_) (fun c_7 => ?_)
  ·
    obtain ⟨hvc, -, hvl⟩ := inB_nat (by omega) (by omega) c_7
    refine lv_iload_n hx hb dX5_goBack_14 rfl (lv_at hl 1 rfl) ?_
    refine lv_if_ne (tgt := 28) hx hb dX5_goBack_15 (by decide) (fun c_15 => ?_) (fun c_15 => ?_)
    ·
      refine lv_aload_n hx hb dX5_goBack_28 rfl (lv_at hl 0 rfl) ?_
      refine mg_159 X rfl hW dX5_goBack_29 (W.stk (w := (bI hs)) hG ?_)
      refine b_ifne (tgt := 39) X dX5_goBack_32 (by decide) (fun c_32 => ?_) (fun c_32 => ?_)
      ·
        refine lv_iconst (v := nI 0) hx hb dX5_goBack_39 (by decide) ?_
        refine mp_38 X rfl hL hW dX5_goBack_40 (fun H locs hL hW hO1 => ?_)
        have hO := hO.trans hO1
        have hW := MW.cast (S1 := uS S 15 (nI 0)) hW ⟨rfl, rfl, rfl, rfl, rfl, rfl, rfl, rfl, rfl, rfl, rfl, rfl, rfl, rfl, rfl, rfl, rfl⟩
        refine lv_aload_n hx hb dX5_goBack_43 rfl (lv_at hl 0 rfl) ?_
        refine mg_38 X rfl hW dX5_goBack_44 (W.stk (w := (nI 0)) rfl ?_)
        refine n_ifne (tgt := 54) X dX5_goBack_47 (by decide) (by omega) (fun c_47 => ?_) (fun c_47 => ?_)
        ·
          exact absurd c_47 (by decide)
        ·
          refine lv_aload_n hx hb dX5_goBack_50 rfl (lv_at hl 0 rfl) ?_
          refine Ct.callV (ct_X5_record l g o st (uS S 15 (nI 0)) hst (by omega)) X hL hl vb_X5_record q1888 (hW.2.1.recv hKV rfl) rfl rfl (Nat.le_of_ble_eq_true rfl) dX5_goBack_51 ⟨Nat.le_of_ble_eq_true rfl, Nat.le_of_ble_eq_true rfl⟩ (by omega) (by omega) hW (fun r H1 locs hL hp => ?_)
          obtain ⟨rfl, hW, hO1⟩ := hp
          have hO := hO.trans hO1
          have hW := MW.cast (S1 := uS (uS (uA S 2 (recP (S.1 2) (S.1 0) st)) 12 (nI (recN st + 1))) 15 (nI 0)) hW ⟨rfl, rfl, rfl, rfl, rfl, rfl, rfl, rfl, rfl, rfl, rfl, rfl, rfl, rfl, rfl, rfl, rfl⟩
          refine lv_iconst (v := nI 0) hx hb dX5_goBack_54 (by decide) ?_
          refine lv_istore_n (lv' := [(2, .int _), (0, .ref _), (1, .int _)]) hx hb dX5_goBack_55 rfl hl (by decide) rfl (fun ls hl => ?_)
          have L56 : ∀ (fuel : Nat) (k : Nat), 179 - k < fuel → (k ≤ 179) → ∀ (H : Heap), MW g o (uS (uS (uA (uA S 0 (setI (S.1 0) k (fun j => S.1 3 (179 * v.toNatClampNeg + j)))) 2 (recP (S.1 2) (S.1 0) st)) 12 (nI (recN st + 1))) 15 (nI 0)) H → Off o s.heap H → ∀ (locs : List Loc), (∀ q ∈ locs, gLo g ≤ q.base) → ∀ (ls : Array Slot), lv_has ls 3 [(0, .ref o), (1, .int v), (2, .int (nI k))] → W p l e (rmL 3 0 0) s m args below meth c H locs 0 0 (MQ below (Qcg (fun r H H1 => ∃ S1, AP S1 (s_goBack S st hf hs v) r ∧ MW g o S1 H1 ∧ Off o H H1)) args s 0 0 (fre g)) (F0 m 56 ls []) := by
            intro fuel
            induction fuel with
            | zero => intro k hfu; exact absurd hfu (Nat.not_lt_zero _)
            | succ fuel ih56 =>
              intro k hfu hk H hW hO locs hL ls hl
              refine lv_iload_n hx hb dX5_goBack_56 rfl (lv_at hl 2 rfl) ?_
              refine lv_sipush (v := nI 179) hx hb dX5_goBack_57 (by decide) ?_
              refine n_icmp_ge (tgt := 94) X dX5_goBack_60 (by decide) (by omega) (by omega) (fun c_60 => ?_) (fun c_60 => ?_)
              ·
                have hk9 : k = 179 := by omega
                have hW := MW.eqA (k := 0) (f := setI (S.1 0) k (fun j => S.1 3 (179 * v.toNatClampNeg + j))) (f1 := setI (S.1 0) 179 (fun j => S.1 3 (179 * v.toNatClampNeg + j))) hW (by rw [hk9]) rfl (fun h => MW.cast (S1 := uS (uS (uA (uA S 0 (setI (S.1 0) 179 (fun j => S.1 3 (179 * v.toNatClampNeg + j)))) 2 (recP (S.1 2) (S.1 0) st)) 12 (nI (recN st + 1))) 15 (nI 0)) h ⟨rfl, rfl, rfl, rfl, rfl, rfl, rfl, rfl, rfl, rfl, rfl, rfl, rfl, rfl, rfl, rfl, rfl⟩)
                exact r_vret X hL dX5_goBack_94 (by omega) (by omega) ⟨uS (uS (uA (uA S 0 (setI (S.1 0) 179 (fun j => S.1 3 (179 * v.toNatClampNeg + j)))) 2 (recP (S.1 2) (S.1 0) st)) 12 (nI (recN st + 1))) 15 (nI 0), AP.mk (t := 0) (v := none) (X := upR S st (setI (S.1 0) 179 (fun j => S.1 3 (179 * v.toNatClampNeg + j)))) (by simp only [s_goBack, c_7] <;> simp [c_7, c_15, c_32, c_60]) ⟨rfl, rfl, rfl, rfl, rfl, rfl, rfl, rfl⟩ rfl rfl, hW, hO⟩
              ·
                refine lv_aload_n hx hb dX5_goBack_63 rfl (lv_at hl 0 rfl) ?_
                refine mg_38 X rfl hW dX5_goBack_64 (W.stk (w := (nI 0)) rfl ?_)
                refine n_ifne (tgt := 94) X dX5_goBack_67 (by decide) (by omega) (fun c_67 => ?_) (fun c_67 => ?_)
                ·
                  exact absurd c_67 (by decide)
                ·
                  refine lv_aload_n hx hb dX5_goBack_70 rfl (lv_at hl 0 rfl) ?_
                  refine mg_7 X rfl hW dX5_goBack_71 ?_
                  refine lv_iload_n hx hb dX5_goBack_74 rfl (lv_at hl 2 rfl) ?_
                  refine lv_aload_n hx hb dX5_goBack_75 rfl (lv_at hl 0 rfl) ?_
                  refine mg_19 X rfl hW dX5_goBack_76 ?_
                  refine lv_sipush (v := nI 179) hx hb dX5_goBack_79 (by decide) ?_
                  refine lv_iload_n hx hb dX5_goBack_82 rfl (lv_at hl 1 rfl) ?_
                  refine W.stk (w := (nI v.toNatClampNeg)) hvc ?_
                  refine n_imul X dX5_goBack_83 ?_
                  refine lv_iload_n hx hb dX5_goBack_84 rfl (lv_at hl 2 rfl) ?_
                  refine n_iadd X dX5_goBack_85 ?_
                  refine m_ld (v := ((S.1 3) ((179 * v.toNatClampNeg) + k))) X hW 3 (by decide) rfl ((179 * v.toNatClampNeg) + k) rfl (by show (179 * v.toNatClampNeg) + k < 358; omega) rfl dX5_goBack_86 ?_
                  refine m_st X hL hW 0 (by decide) rfl k rfl (by show k < 179; omega) dX5_goBack_87 (fun H locs hL hW hO1 => ?_)
                  have hO := hO.trans hO1
                  have hW := MW.cast (S1 := uS (uS (uA (uA S 0 (upd (setI (S.1 0) k (fun j => S.1 3 (179 * v.toNatClampNeg + j))) k ((S.1 3) ((179 * v.toNatClampNeg) + k)))) 2 (recP (S.1 2) (S.1 0) st)) 12 (nI (recN st + 1))) 15 (nI 0)) hW ⟨rfl, rfl, rfl, rfl, rfl, rfl, rfl, rfl, rfl, rfl, rfl, rfl, rfl, rfl, rfl, rfl, rfl⟩
                  have hW := MW.eqA (k := 0) (f := upd (setI (S.1 0) k (fun j => S.1 3 (179 * v.toNatClampNeg + j))) k ((S.1 3) ((179 * v.toNatClampNeg) + k))) (f1 := setI (S.1 0) (k + 1) (fun j => S.1 3 (179 * v.toNatClampNeg + j))) hW (setI_s _ _ _ rfl) rfl (fun h => MW.cast (S1 := uS (uS (uA (uA S 0 (setI (S.1 0) (k + 1) (fun j => S.1 3 (179 * v.toNatClampNeg + j)))) 2 (recP (S.1 2) (S.1 0) st)) 12 (nI (recN st + 1))) 15 (nI 0)) h ⟨rfl, rfl, rfl, rfl, rfl, rfl, rfl, rfl, rfl, rfl, rfl, rfl, rfl, rfl, rfl, rfl, rfl⟩)
                  refine lv_iinc (v := nI (k + 1)) (lv' := [(2, .int _), (0, .ref _), (1, .int _)]) hx hb dX5_goBack_88 hl (k := 2) rfl (nI_iinc _ 1 rfl) (by decide) rfl (fun ls hl => ?_)
                  refine lv_goto (tgt := 56) hx hb dX5_goBack_91 (by decide) ?_
                  exact ih56 _ (by omega) (by omega) _ hW hO _ hL ls (lv_sub hl [1, 2, 0] rfl)
          exact L56 180 0 (by omega) (by omega) _ (MW.cast hW ⟨(setI_0 (S.1 0) (fun j => S.1 3 (179 * v.toNatClampNeg + j))).symm, rfl, rfl, rfl, rfl, rfl, rfl, rfl, rfl, rfl, rfl, rfl, rfl, rfl, rfl, rfl, rfl⟩) hO _ hL ls (lv_sub hl [1, 2, 0] rfl)
      ·
        refine lv_iconst (v := nI 2) hx hb dX5_goBack_35 (by decide) ?_
        refine lv_goto (tgt := 40) hx hb dX5_goBack_36 (by decide) ?_
        refine mp_38 X rfl hL hW dX5_goBack_40 (fun H locs hL hW hO1 => ?_)
        have hO := hO.trans hO1
        have hW := MW.cast (S1 := uS S 15 (nI 2)) hW ⟨rfl, rfl, rfl, rfl, rfl, rfl, rfl, rfl, rfl, rfl, rfl, rfl, rfl, rfl, rfl, rfl, rfl⟩
        refine lv_aload_n hx hb dX5_goBack_43 rfl (lv_at hl 0 rfl) ?_
        refine mg_38 X rfl hW dX5_goBack_44 (W.stk (w := (nI 2)) rfl ?_)
        refine n_ifne (tgt := 54) X dX5_goBack_47 (by decide) (by omega) (fun c_47 => ?_) (fun c_47 => ?_)
        ·
          refine lv_iconst (v := nI 0) hx hb dX5_goBack_54 (by decide) ?_
          refine lv_istore_n (lv' := [(2, .int _), (0, .ref _), (1, .int _)]) hx hb dX5_goBack_55 rfl hl (by decide) rfl (fun ls hl => ?_)
          refine lv_iload_n hx hb dX5_goBack_56 rfl (lv_at hl 0 rfl) ?_
          refine lv_sipush (v := nI 179) hx hb dX5_goBack_57 (by decide) ?_
          refine n_icmp_ge (tgt := 94) X dX5_goBack_60 (by decide) (by omega) (by omega) (fun c_60 => ?_) (fun c_60 => ?_)
          ·
            exact absurd c_60 (by decide)
          ·
            refine lv_aload_n hx hb dX5_goBack_63 rfl (lv_at hl 1 rfl) ?_
            refine mg_38 X rfl hW dX5_goBack_64 (W.stk (w := (nI 2)) rfl ?_)
            refine n_ifne (tgt := 94) X dX5_goBack_67 (by decide) (by omega) (fun c_67 => ?_) (fun c_67 => ?_)
            ·
              exact r_vret X hL dX5_goBack_94 (by omega) (by omega) ⟨uS S 15 (nI 2), AP.mk (t := 2) (v := none) (X := S) (by simp only [s_goBack, c_7] <;> simp [c_7, c_15, c_32]) ⟨rfl, rfl, rfl, rfl, rfl, rfl, rfl, rfl⟩ rfl rfl, hW, hO⟩
            ·
              exact absurd c_67 (by decide)
        ·
          exact absurd c_47 (by decide)
    ·
      refine lv_aload_n hx hb dX5_goBack_18 rfl (lv_at hl 0 rfl) ?_
      refine mg_155 X rfl hW dX5_goBack_19 (W.stk (w := (bI hf)) hF ?_)
      refine b_ifne (tgt := 39) X dX5_goBack_22 (by decide) (fun c_22 => ?_) (fun c_22 => ?_)
      ·
        refine lv_iconst (v := nI 0) hx hb dX5_goBack_39 (by decide) ?_
        refine mp_38 X rfl hL hW dX5_goBack_40 (fun H locs hL hW hO1 => ?_)
        have hO := hO.trans hO1
        have hW := MW.cast (S1 := uS S 15 (nI 0)) hW ⟨rfl, rfl, rfl, rfl, rfl, rfl, rfl, rfl, rfl, rfl, rfl, rfl, rfl, rfl, rfl, rfl, rfl⟩
        refine lv_aload_n hx hb dX5_goBack_43 rfl (lv_at hl 0 rfl) ?_
        refine mg_38 X rfl hW dX5_goBack_44 (W.stk (w := (nI 0)) rfl ?_)
        refine n_ifne (tgt := 54) X dX5_goBack_47 (by decide) (by omega) (fun c_47 => ?_) (fun c_47 => ?_)
        ·
          exact absurd c_47 (by decide)
        ·
          refine lv_aload_n hx hb dX5_goBack_50 rfl (lv_at hl 0 rfl) ?_
          refine Ct.callV (ct_X5_record l g o st (uS S 15 (nI 0)) hst (by omega)) X hL hl vb_X5_record q1888 (hW.2.1.recv hKV rfl) rfl rfl (Nat.le_of_ble_eq_true rfl) dX5_goBack_51 ⟨Nat.le_of_ble_eq_true rfl, Nat.le_of_ble_eq_true rfl⟩ (by omega) (by omega) hW (fun r H1 locs hL hp => ?_)
          obtain ⟨rfl, hW, hO1⟩ := hp
          have hO := hO.trans hO1
          have hW := MW.cast (S1 := uS (uS (uA S 2 (recP (S.1 2) (S.1 0) st)) 12 (nI (recN st + 1))) 15 (nI 0)) hW ⟨rfl, rfl, rfl, rfl, rfl, rfl, rfl, rfl, rfl, rfl, rfl, rfl, rfl, rfl, rfl, rfl, rfl⟩
          refine lv_iconst (v := nI 0) hx hb dX5_goBack_54 (by decide) ?_
          refine lv_istore_n (lv' := [(2, .int _), (0, .ref _), (1, .int _)]) hx hb dX5_goBack_55 rfl hl (by decide) rfl (fun ls hl => ?_)
          have L56 : ∀ (fuel : Nat) (k : Nat), 179 - k < fuel → (k ≤ 179) → ∀ (H : Heap), MW g o (uS (uS (uA (uA S 0 (setI (S.1 0) k (fun j => S.1 3 (179 * v.toNatClampNeg + j)))) 2 (recP (S.1 2) (S.1 0) st)) 12 (nI (recN st + 1))) 15 (nI 0)) H → Off o s.heap H → ∀ (locs : List Loc), (∀ q ∈ locs, gLo g ≤ q.base) → ∀ (ls : Array Slot), lv_has ls 3 [(0, .ref o), (1, .int v), (2, .int (nI k))] → W p l e (rmL 3 0 0) s m args below meth c H locs 0 0 (MQ below (Qcg (fun r H H1 => ∃ S1, AP S1 (s_goBack S st hf hs v) r ∧ MW g o S1 H1 ∧ Off o H H1)) args s 0 0 (fre g)) (F0 m 56 ls []) := by
            intro fuel
            induction fuel with
            | zero => intro k hfu; exact absurd hfu (Nat.not_lt_zero _)
            | succ fuel ih56 =>
              intro k hfu hk H hW hO locs hL ls hl
              refine lv_iload_n hx hb dX5_goBack_56 rfl (lv_at hl 2 rfl) ?_
              refine lv_sipush (v := nI 179) hx hb dX5_goBack_57 (by decide) ?_
              refine n_icmp_ge (tgt := 94) X dX5_goBack_60 (by decide) (by omega) (by omega) (fun c_60 => ?_) (fun c_60 => ?_)
              ·
                have hk9 : k = 179 := by omega
                have hW := MW.eqA (k := 0) (f := setI (S.1 0) k (fun j => S.1 3 (179 * v.toNatClampNeg + j))) (f1 := setI (S.1 0) 179 (fun j => S.1 3 (179 * v.toNatClampNeg + j))) hW (by rw [hk9]) rfl (fun h => MW.cast (S1 := uS (uS (uA (uA S 0 (setI (S.1 0) 179 (fun j => S.1 3 (179 * v.toNatClampNeg + j)))) 2 (recP (S.1 2) (S.1 0) st)) 12 (nI (recN st + 1))) 15 (nI 0)) h ⟨rfl, rfl, rfl, rfl, rfl, rfl, rfl, rfl, rfl, rfl, rfl, rfl, rfl, rfl, rfl, rfl, rfl⟩)
                exact r_vret X hL dX5_goBack_94 (by omega) (by omega) ⟨uS (uS (uA (uA S 0 (setI (S.1 0) 179 (fun j => S.1 3 (179 * v.toNatClampNeg + j)))) 2 (recP (S.1 2) (S.1 0) st)) 12 (nI (recN st + 1))) 15 (nI 0), AP.mk (t := 0) (v := none) (X := upR S st (setI (S.1 0) 179 (fun j => S.1 3 (179 * v.toNatClampNeg + j)))) (by simp only [s_goBack, c_7] <;> simp [c_7, c_15, c_22, c_60]) ⟨rfl, rfl, rfl, rfl, rfl, rfl, rfl, rfl⟩ rfl rfl, hW, hO⟩
              ·
                refine lv_aload_n hx hb dX5_goBack_63 rfl (lv_at hl 0 rfl) ?_
                refine mg_38 X rfl hW dX5_goBack_64 (W.stk (w := (nI 0)) rfl ?_)
                refine n_ifne (tgt := 94) X dX5_goBack_67 (by decide) (by omega) (fun c_67 => ?_) (fun c_67 => ?_)
                ·
                  exact absurd c_67 (by decide)
                ·
                  refine lv_aload_n hx hb dX5_goBack_70 rfl (lv_at hl 0 rfl) ?_
                  refine mg_7 X rfl hW dX5_goBack_71 ?_
                  refine lv_iload_n hx hb dX5_goBack_74 rfl (lv_at hl 2 rfl) ?_
                  refine lv_aload_n hx hb dX5_goBack_75 rfl (lv_at hl 0 rfl) ?_
                  refine mg_19 X rfl hW dX5_goBack_76 ?_
                  refine lv_sipush (v := nI 179) hx hb dX5_goBack_79 (by decide) ?_
                  refine lv_iload_n hx hb dX5_goBack_82 rfl (lv_at hl 1 rfl) ?_
                  refine W.stk (w := (nI v.toNatClampNeg)) hvc ?_
                  refine n_imul X dX5_goBack_83 ?_
                  refine lv_iload_n hx hb dX5_goBack_84 rfl (lv_at hl 2 rfl) ?_
                  refine n_iadd X dX5_goBack_85 ?_
                  refine m_ld (v := ((S.1 3) ((179 * v.toNatClampNeg) + k))) X hW 3 (by decide) rfl ((179 * v.toNatClampNeg) + k) rfl (by show (179 * v.toNatClampNeg) + k < 358; omega) rfl dX5_goBack_86 ?_
                  refine m_st X hL hW 0 (by decide) rfl k rfl (by show k < 179; omega) dX5_goBack_87 (fun H locs hL hW hO1 => ?_)
                  have hO := hO.trans hO1
                  have hW := MW.cast (S1 := uS (uS (uA (uA S 0 (upd (setI (S.1 0) k (fun j => S.1 3 (179 * v.toNatClampNeg + j))) k ((S.1 3) ((179 * v.toNatClampNeg) + k)))) 2 (recP (S.1 2) (S.1 0) st)) 12 (nI (recN st + 1))) 15 (nI 0)) hW ⟨rfl, rfl, rfl, rfl, rfl, rfl, rfl, rfl, rfl, rfl, rfl, rfl, rfl, rfl, rfl, rfl, rfl⟩
                  have hW := MW.eqA (k := 0) (f := upd (setI (S.1 0) k (fun j => S.1 3 (179 * v.toNatClampNeg + j))) k ((S.1 3) ((179 * v.toNatClampNeg) + k))) (f1 := setI (S.1 0) (k + 1) (fun j => S.1 3 (179 * v.toNatClampNeg + j))) hW (setI_s _ _ _ rfl) rfl (fun h => MW.cast (S1 := uS (uS (uA (uA S 0 (setI (S.1 0) (k + 1) (fun j => S.1 3 (179 * v.toNatClampNeg + j)))) 2 (recP (S.1 2) (S.1 0) st)) 12 (nI (recN st + 1))) 15 (nI 0)) h ⟨rfl, rfl, rfl, rfl, rfl, rfl, rfl, rfl, rfl, rfl, rfl, rfl, rfl, rfl, rfl, rfl, rfl⟩)
                  refine lv_iinc (v := nI (k + 1)) (lv' := [(2, .int _), (0, .ref _), (1, .int _)]) hx hb dX5_goBack_88 hl (k := 2) rfl (nI_iinc _ 1 rfl) (by decide) rfl (fun ls hl => ?_)
                  refine lv_goto (tgt := 56) hx hb dX5_goBack_91 (by decide) ?_
                  exact ih56 _ (by omega) (by omega) _ hW hO _ hL ls (lv_sub hl [1, 2, 0] rfl)
          exact L56 180 0 (by omega) (by omega) _ (MW.cast hW ⟨(setI_0 (S.1 0) (fun j => S.1 3 (179 * v.toNatClampNeg + j))).symm, rfl, rfl, rfl, rfl, rfl, rfl, rfl, rfl, rfl, rfl, rfl, rfl, rfl, rfl, rfl, rfl⟩) hO _ hL ls (lv_sub hl [1, 2, 0] rfl)
      ·
        refine lv_goto (tgt := 35) hx hb dX5_goBack_25 (by decide) ?_
        refine lv_iconst (v := nI 2) hx hb dX5_goBack_35 (by decide) ?_
        refine lv_goto (tgt := 40) hx hb dX5_goBack_36 (by decide) ?_
        refine mp_38 X rfl hL hW dX5_goBack_40 (fun H locs hL hW hO1 => ?_)
        have hO := hO.trans hO1
        have hW := MW.cast (S1 := uS S 15 (nI 2)) hW ⟨rfl, rfl, rfl, rfl, rfl, rfl, rfl, rfl, rfl, rfl, rfl, rfl, rfl, rfl, rfl, rfl, rfl⟩
        refine lv_aload_n hx hb dX5_goBack_43 rfl (lv_at hl 0 rfl) ?_
        refine mg_38 X rfl hW dX5_goBack_44 (W.stk (w := (nI 2)) rfl ?_)
        refine n_ifne (tgt := 54) X dX5_goBack_47 (by decide) (by omega) (fun c_47 => ?_) (fun c_47 => ?_)
        ·
          refine lv_iconst (v := nI 0) hx hb dX5_goBack_54 (by decide) ?_
          refine lv_istore_n (lv' := [(2, .int _), (0, .ref _), (1, .int _)]) hx hb dX5_goBack_55 rfl hl (by decide) rfl (fun ls hl => ?_)
          refine lv_iload_n hx hb dX5_goBack_56 rfl (lv_at hl 0 rfl) ?_
          refine lv_sipush (v := nI 179) hx hb dX5_goBack_57 (by decide) ?_
          refine n_icmp_ge (tgt := 94) X dX5_goBack_60 (by decide) (by omega) (by omega) (fun c_60 => ?_) (fun c_60 => ?_)
          ·
            exact absurd c_60 (by decide)
          ·
            refine lv_aload_n hx hb dX5_goBack_63 rfl (lv_at hl 1 rfl) ?_
            refine mg_38 X rfl hW dX5_goBack_64 (W.stk (w := (nI 2)) rfl ?_)
            refine n_ifne (tgt := 94) X dX5_goBack_67 (by decide) (by omega) (fun c_67 => ?_) (fun c_67 => ?_)
            ·
              exact r_vret X hL dX5_goBack_94 (by omega) (by omega) ⟨uS S 15 (nI 2), AP.mk (t := 2) (v := none) (X := S) (by simp only [s_goBack, c_7] <;> simp [c_7, c_15, c_22]) ⟨rfl, rfl, rfl, rfl, rfl, rfl, rfl, rfl⟩ rfl rfl, hW, hO⟩
            ·
              exact absurd c_67 (by decide)
        ·
          exact absurd c_47 (by decide)
  ·
    refine lv_iconst (v := nI 1) hx hb dX5_goBack_10 (by decide) ?_
    refine lv_goto (tgt := 40) hx hb dX5_goBack_11 (by decide) ?_
    refine mp_38 X rfl hL hW dX5_goBack_40 (fun H locs hL hW hO1 => ?_)
    have hO := hO.trans hO1
    have hW := MW.cast (S1 := uS S 15 (nI 1)) hW ⟨rfl, rfl, rfl, rfl, rfl, rfl, rfl, rfl, rfl, rfl, rfl, rfl, rfl, rfl, rfl, rfl, rfl⟩
    refine lv_aload_n hx hb dX5_goBack_43 rfl (lv_at hl 0 rfl) ?_
    refine mg_38 X rfl hW dX5_goBack_44 (W.stk (w := (nI 1)) rfl ?_)
    refine n_ifne (tgt := 54) X dX5_goBack_47 (by decide) (by omega) (fun c_47 => ?_) (fun c_47 => ?_)
    ·
      refine lv_iconst (v := nI 0) hx hb dX5_goBack_54 (by decide) ?_
      refine lv_istore_n (lv' := [(2, .int _), (0, .ref _), (1, .int _)]) hx hb dX5_goBack_55 rfl hl (by decide) rfl (fun ls hl => ?_)
      refine lv_iload_n hx hb dX5_goBack_56 rfl (lv_at hl 0 rfl) ?_
      refine lv_sipush (v := nI 179) hx hb dX5_goBack_57 (by decide) ?_
      refine n_icmp_ge (tgt := 94) X dX5_goBack_60 (by decide) (by omega) (by omega) (fun c_60 => ?_) (fun c_60 => ?_)
      ·
        exact absurd c_60 (by decide)
      ·
        refine lv_aload_n hx hb dX5_goBack_63 rfl (lv_at hl 1 rfl) ?_
        refine mg_38 X rfl hW dX5_goBack_64 (W.stk (w := (nI 1)) rfl ?_)
        refine n_ifne (tgt := 94) X dX5_goBack_67 (by decide) (by omega) (fun c_67 => ?_) (fun c_67 => ?_)
        ·
          exact r_vret X hL dX5_goBack_94 (by omega) (by omega) ⟨uS S 15 (nI 1), AP.mk (t := 1) (v := none) (X := S) (by simp only [s_goBack, c_7] <;> simp [c_7]) ⟨rfl, rfl, rfl, rfl, rfl, rfl, rfl, rfl⟩ rfl rfl, hW, hO⟩
        ·
          exact absurd c_67 (by decide)
    ·
      exact absurd c_47 (by decide)
theorem vb_X5_goBack : VB yX5_goBack cX5_goBack 3 none 1 := ⟨q2032, q2033, q111, q2034, ⟨by decide, by decide, by decide +kernel⟩⟩

set_option maxRecDepth 100000 in
set_option maxHeartbeats 4000000 in
theorem ct_X5_undo (l : Launch) (g : GT) (o st : Nat) (S : MS) (hst : S.2.1 12 = nI st) (hs6 : st ≤ 6) : Ct l g yX5_undo cX5_undo 2 none 3 0 0 [.ref o] (MW g o S) (fun r H H1 => ∃ S1, AP S1 (s_undo S st) r ∧ MW g o S1 H1 ∧ Off o H H1) := by
  refine Ct.of (by decide) (Nat.le_of_ble_eq_true rfl) ?_
  intro p e s m args below meth c X hP ls hl
  have hx := X.1
  have hb := X.2.1
  have hKV := X.2.2.2.2.2.2.2.1.1
  have hL : ∀ q ∈ ([] : List Loc), gLo g ≤ q.base := fun _ h => by cases h
  have hl : lv_has ls 2 [(0, .ref o)] := hl
  have hW : MW g o S s.heap := hP
  have hO : Off o s.heap s.heap := Off.rfl'
  refine lv_aload_n hx hb dX5_undo_0 rfl (lv_at hl 0 rfl) ?_
  refine lv_aload_n hx hb dX5_undo_1 rfl (lv_at hl 0 rfl) ?_
  refine mg_46 X rfl hW dX5_undo_2 (W.stk (w := (nI st)) hst ?_)
  refine n_ifne (tgt := 12) X dX5_undo_5 (by decide) (by omega) (fun c_5 => ?_) (fun c_5 => ?_)
  ·
    refine lv_iconst (v := nI 0) hx hb dX5_undo_12 (by decide) ?_
    refine mp_38 X rfl hL hW dX5_undo_13 (fun H locs hL hW hO1 => ?_)
    have hO := hO.trans hO1
    have hW := MW.cast (S1 := uS S 15 (nI 0)) hW ⟨rfl, rfl, rfl, rfl, rfl, rfl, rfl, rfl, rfl, rfl, rfl, rfl, rfl, rfl, rfl, rfl, rfl⟩
    refine lv_aload_n hx hb dX5_undo_16 rfl (lv_at hl 0 rfl) ?_
    refine lv_dup hx hb dX5_undo_17 rfl ?_
    refine mg_46 X rfl hW dX5_undo_18 (W.stk (w := (nI st)) hst ?_)
    refine lv_aload_n hx hb dX5_undo_21 rfl (lv_at hl 0 rfl) ?_
    refine mg_46 X rfl hW dX5_undo_22 (W.stk (w := (nI st)) hst ?_)
    refine n_ifne (tgt := 32) X dX5_undo_25 (by decide) (by omega) (fun c_25 => ?_) (fun c_25 => ?_)
    ·
      refine lv_iconst (v := nI 1) hx hb dX5_undo_32 (by decide) ?_
      refine n_isub X (by omega) dX5_undo_33 ?_
      refine mp_46 X rfl hL hW dX5_undo_34 (fun H locs hL hW hO1 => ?_)
      have hO := hO.trans hO1
      have hW := MW.cast (S1 := uS (uS S 12 (nI (st - 1))) 15 (nI 0)) hW ⟨rfl, rfl, rfl, rfl, rfl, rfl, rfl, rfl, rfl, rfl, rfl, rfl, rfl, rfl, rfl, rfl, rfl⟩
      refine lv_iconst (v := nI 0) hx hb dX5_undo_37 (by decide) ?_
      refine lv_istore_n (lv' := [(1, .int _), (0, .ref _)]) hx hb dX5_undo_38 rfl hl (by decide) rfl (fun ls hl => ?_)
      have L39 : ∀ (fuel : Nat) (k : Nat), 179 - k < fuel → (k ≤ 179) → ∀ (H : Heap), MW g o (uS (uS (uA S 0 (setI (S.1 0) k (fun j => S.1 2 (179 * (st - 1) + j)))) 12 (nI (st - 1))) 15 (nI 0)) H → Off o s.heap H → ∀ (locs : List Loc), (∀ q ∈ locs, gLo g ≤ q.base) → ∀ (ls : Array Slot), lv_has ls 2 [(0, .ref o), (1, .int (nI k))] → W p l e (rmL 3 0 0) s m args below meth c H locs 0 0 (MQ below (Qcg (fun r H H1 => ∃ S1, AP S1 (s_undo S st) r ∧ MW g o S1 H1 ∧ Off o H H1)) args s 0 0 (fre g)) (F0 m 39 ls []) := by
        intro fuel
        induction fuel with
        | zero => intro k hfu; exact absurd hfu (Nat.not_lt_zero _)
        | succ fuel ih39 =>
          intro k hfu hk H hW hO locs hL ls hl
          refine lv_iload_n hx hb dX5_undo_39 rfl (lv_at hl 1 rfl) ?_
          refine lv_sipush (v := nI 179) hx hb dX5_undo_40 (by decide) ?_
          refine n_icmp_ge (tgt := 80) X dX5_undo_43 (by decide) (by omega) (by omega) (fun c_43 => ?_) (fun c_43 => ?_)
          ·
            have hk9 : k = 179 := by omega
            have hW := MW.eqA (k := 0) (f := setI (S.1 0) k (fun j => S.1 2 (179 * (st - 1) + j))) (f1 := setI (S.1 0) 179 (fun j => S.1 2 (179 * (st - 1) + j))) hW (by rw [hk9]) rfl (fun h => MW.cast (S1 := uS (uS (uA S 0 (setI (S.1 0) 179 (fun j => S.1 2 (179 * (st - 1) + j)))) 12 (nI (st - 1))) 15 (nI 0)) h ⟨rfl, rfl, rfl, rfl, rfl, rfl, rfl, rfl, rfl, rfl, rfl, rfl, rfl, rfl, rfl, rfl, rfl⟩)
            exact r_vret X hL dX5_undo_80 (by omega) (by omega) ⟨uS (uS (uA S 0 (setI (S.1 0) 179 (fun j => S.1 2 (179 * (st - 1) + j)))) 12 (nI (st - 1))) 15 (nI 0), AP.mk (t := 0) (v := none) (X := uS (uA S 0 (setI (S.1 0) 179 (fun j => S.1 2 (179 * (st - 1) + j)))) 12 (nI (st - 1))) (by simp [s_undo, c_5, vI]) ⟨rfl, rfl, rfl, rfl, rfl, rfl, rfl, rfl⟩ rfl rfl, hW, hO⟩
          ·
            refine lv_aload_n hx hb dX5_undo_46 rfl (lv_at hl 0 rfl) ?_
            refine mg_38 X rfl hW dX5_undo_47 (W.stk (w := (nI 0)) rfl ?_)
            refine n_ifne (tgt := 80) X dX5_undo_50 (by decide) (by omega) (fun c_50 => ?_) (fun c_50 => ?_)
            ·
              exact absurd c_50 (by decide)
            ·
              refine lv_aload_n hx hb dX5_undo_53 rfl (lv_at hl 0 rfl) ?_
              refine mg_7 X rfl hW dX5_undo_54 ?_
              refine lv_iload_n hx hb dX5_undo_57 rfl (lv_at hl 1 rfl) ?_
              refine lv_aload_n hx hb dX5_undo_58 rfl (lv_at hl 0 rfl) ?_
              refine mg_16 X rfl hW dX5_undo_59 ?_
              refine lv_sipush (v := nI 179) hx hb dX5_undo_62 (by decide) ?_
              refine lv_aload_n hx hb dX5_undo_65 rfl (lv_at hl 0 rfl) ?_
              refine mg_46 X rfl hW dX5_undo_66 (W.stk (w := (nI (st - 1))) rfl ?_)
              refine n_imul X dX5_undo_69 ?_
              refine lv_iload_n hx hb dX5_undo_70 rfl (lv_at hl 1 rfl) ?_
              refine n_iadd X dX5_undo_71 ?_
              refine m_ld (v := ((S.1 2) ((179 * (st - 1)) + k))) X hW 2 (by decide) rfl ((179 * (st - 1)) + k) rfl (by show (179 * (st - 1)) + k < 1074; omega) rfl dX5_undo_72 ?_
              refine m_st X hL hW 0 (by decide) rfl k rfl (by show k < 179; omega) dX5_undo_73 (fun H locs hL hW hO1 => ?_)
              have hO := hO.trans hO1
              have hW := MW.cast (S1 := uS (uS (uA S 0 (upd (setI (S.1 0) k (fun j => S.1 2 (179 * (st - 1) + j))) k ((S.1 2) ((179 * (st - 1)) + k)))) 12 (nI (st - 1))) 15 (nI 0)) hW ⟨rfl, rfl, rfl, rfl, rfl, rfl, rfl, rfl, rfl, rfl, rfl, rfl, rfl, rfl, rfl, rfl, rfl⟩
              have hW := MW.eqA (k := 0) (f := upd (setI (S.1 0) k (fun j => S.1 2 (179 * (st - 1) + j))) k ((S.1 2) ((179 * (st - 1)) + k))) (f1 := setI (S.1 0) (k + 1) (fun j => S.1 2 (179 * (st - 1) + j))) hW (setI_s _ _ _ rfl) rfl (fun h => MW.cast (S1 := uS (uS (uA S 0 (setI (S.1 0) (k + 1) (fun j => S.1 2 (179 * (st - 1) + j)))) 12 (nI (st - 1))) 15 (nI 0)) h ⟨rfl, rfl, rfl, rfl, rfl, rfl, rfl, rfl, rfl, rfl, rfl, rfl, rfl, rfl, rfl, rfl, rfl⟩)
              refine lv_iinc (v := nI (k + 1)) (lv' := [(1, .int _), (0, .ref _)]) hx hb dX5_undo_74 hl (k := 1) rfl (nI_iinc _ 1 rfl) (by decide) rfl (fun ls hl => ?_)
              refine lv_goto (tgt := 39) hx hb dX5_undo_77 (by decide) ?_
              exact ih39 _ (by omega) (by omega) _ hW hO _ hL ls (lv_sub hl [1, 0] rfl)
      exact L39 180 0 (by omega) (by omega) _ (MW.cast hW ⟨(setI_0 (S.1 0) (fun j => S.1 2 (179 * (st - 1) + j))).symm, rfl, rfl, rfl, rfl, rfl, rfl, rfl, rfl, rfl, rfl, rfl, rfl, rfl, rfl, rfl, rfl⟩) hO _ hL ls (lv_sub hl [1, 0] rfl)
    ·
      exact absurd c_25 c_5
  ·
    refine lv_iconst (v := nI 1) hx hb dX5_undo_8 (by decide) ?_
    refine lv_goto (tgt := 13) hx hb dX5_undo_9 (by decide) ?_
    refine mp_38 X rfl hL hW dX5_undo_13 (fun H locs hL hW hO1 => ?_)
    have hO := hO.trans hO1
    have hW := MW.cast (S1 := uS S 15 (nI 1)) hW ⟨rfl, rfl, rfl, rfl, rfl, rfl, rfl, rfl, rfl, rfl, rfl, rfl, rfl, rfl, rfl, rfl, rfl⟩
    refine lv_aload_n hx hb dX5_undo_16 rfl (lv_at hl 0 rfl) ?_
    refine lv_dup hx hb dX5_undo_17 rfl ?_
    refine mg_46 X rfl hW dX5_undo_18 (W.stk (w := (nI st)) hst ?_)
    refine lv_aload_n hx hb dX5_undo_21 rfl (lv_at hl 0 rfl) ?_
    refine mg_46 X rfl hW dX5_undo_22 (W.stk (w := (nI st)) hst ?_)
    refine n_ifne (tgt := 32) X dX5_undo_25 (by decide) (by omega) (fun c_25 => ?_) (fun c_25 => ?_)
    ·
      exact absurd c_5 c_25
    ·
      refine lv_iconst (v := nI 0) hx hb dX5_undo_28 (by decide) ?_
      refine lv_goto (tgt := 33) hx hb dX5_undo_29 (by decide) ?_
      refine n_isub X (by omega) dX5_undo_33 ?_
      refine mp_46 X rfl hL hW dX5_undo_34 (fun H locs hL hW hO1 => ?_)
      have hO := hO.trans hO1
      have hW := MW.cast (S1 := uS (uS S 12 (nI (st - 0))) 15 (nI 1)) hW ⟨rfl, rfl, rfl, rfl, rfl, rfl, rfl, rfl, rfl, rfl, rfl, rfl, rfl, rfl, rfl, rfl, rfl⟩
      refine lv_iconst (v := nI 0) hx hb dX5_undo_37 (by decide) ?_
      refine lv_istore_n (lv' := [(1, .int _), (0, .ref _)]) hx hb dX5_undo_38 rfl hl (by decide) rfl (fun ls hl => ?_)
      refine lv_iload_n hx hb dX5_undo_39 rfl (lv_at hl 0 rfl) ?_
      refine lv_sipush (v := nI 179) hx hb dX5_undo_40 (by decide) ?_
      refine n_icmp_ge (tgt := 80) X dX5_undo_43 (by decide) (by omega) (by omega) (fun c_43 => ?_) (fun c_43 => ?_)
      ·
        exact absurd c_43 (by decide)
      ·
        refine lv_aload_n hx hb dX5_undo_46 rfl (lv_at hl 1 rfl) ?_
        refine mg_38 X rfl hW dX5_undo_47 (W.stk (w := (nI 1)) rfl ?_)
        refine n_ifne (tgt := 80) X dX5_undo_50 (by decide) (by omega) (fun c_50 => ?_) (fun c_50 => ?_)
        ·
          exact r_vret X hL dX5_undo_80 (by omega) (by omega) ⟨uS (uS S 12 (nI (st - 0))) 15 (nI 1), AP.mk (t := 1) (v := none) (X := S) (by simp [s_undo, c_5]) ⟨rfl, rfl, rfl, rfl, rfl, rfl, (show nI (st - 0) = S.2.1 12 from hst.symm), rfl⟩ rfl rfl, hW, hO⟩
        ·
          exact absurd c_50 (by decide)
theorem vb_X5_undo : VB yX5_undo cX5_undo 2 none 0 := ⟨q2036, q2037, q111, q2038, ⟨by decide, by decide, by decide +kernel⟩⟩

set_option maxRecDepth 100000 in
set_option maxHeartbeats 4000000 in
theorem ct_X5_savedStates (l : Launch) (g : GT) (o st : Nat) (S : MS) (hst : S.2.1 12 = nI st) (hs6 : st ≤ 6) : Ct l g yX5_savedStates cX5_savedStates 1 (some .int) 2 0 0 [.ref o] (MW g o S) (fun r H H1 => ∃ S1, AP S1 (q_ S (nI st)) r ∧ MW g o S1 H1 ∧ Off o H H1) := by
  refine Ct.of (by decide) (Nat.le_of_ble_eq_true rfl) ?_
  intro p e s m args below meth c X hP ls hl
  have hx := X.1
  have hb := X.2.1
  have hKV := X.2.2.2.2.2.2.2.1.1
  have hL : ∀ q ∈ ([] : List Loc), gLo g ≤ q.base := fun _ h => by cases h
  have hl : lv_has ls 1 [(0, .ref o)] := hl
  have hW : MW g o S s.heap := hP
  have hO : Off o s.heap s.heap := Off.rfl'
  refine lv_aload_n hx hb dX5_savedStates_0 rfl (lv_at hl 0 rfl) ?_
  refine lv_iconst (v := nI 0) hx hb dX5_savedStates_1 (by decide) ?_
  refine mp_38 X rfl hL hW dX5_savedStates_2 (fun H locs hL hW hO1 => ?_)
  have hO := hO.trans hO1
  have hW := MW.cast (S1 := uS S 15 (nI 0)) hW ⟨rfl, rfl, rfl, rfl, rfl, rfl, rfl, rfl, rfl, rfl, rfl, rfl, rfl, rfl, rfl, rfl, rfl⟩
  refine lv_aload_n hx hb dX5_savedStates_5 rfl (lv_at hl 0 rfl) ?_
  refine mg_46 X rfl hW dX5_savedStates_6 (W.stk (w := (nI st)) hst ?_)
  exact r_iret X hL rfl rfl dX5_savedStates_9 (by omega) (by omega) ⟨uS S 15 (nI 0), AP.mk (t := 0) (v := some (.int (nI st))) (X := S) rfl ⟨rfl, rfl, rfl, rfl, rfl, rfl, rfl, rfl⟩ rfl rfl, hW, hO⟩
theorem vb_X5_savedStates : VB yX5_savedStates cX5_savedStates 1 (some .int) 0 := ⟨q2040, q2041, q111, q2042, ⟨by decide, by decide, by decide +kernel⟩⟩

set_option maxRecDepth 100000 in
set_option maxHeartbeats 4000000 in
theorem ct_X5_offers (l : Launch) (g : GT) (o n : Nat) (S : MS) (hN : S.1 0 160 = nI n) (hn : n ≤ 40) : Ct l g yX5_offers cX5_offers 1 (some .int) 2 0 0 [.ref o] (MW g o S) (fun r H H1 => ∃ S1, AP S1 (q_ S (nI n)) r ∧ MW g o S1 H1 ∧ Off o H H1) := by
  refine Ct.of (by decide) (Nat.le_of_ble_eq_true rfl) ?_
  intro p e s m args below meth c X hP ls hl
  have hx := X.1
  have hb := X.2.1
  have hKV := X.2.2.2.2.2.2.2.1.1
  have hL : ∀ q ∈ ([] : List Loc), gLo g ≤ q.base := fun _ h => by cases h
  have hl : lv_has ls 1 [(0, .ref o)] := hl
  have hW : MW g o S s.heap := hP
  have hO : Off o s.heap s.heap := Off.rfl'
  refine lv_aload_n hx hb dX5_offers_0 rfl (lv_at hl 0 rfl) ?_
  refine lv_iconst (v := nI 0) hx hb dX5_offers_1 (by decide) ?_
  refine mp_38 X rfl hL hW dX5_offers_2 (fun H locs hL hW hO1 => ?_)
  have hO := hO.trans hO1
  have hW := MW.cast (S1 := uS S 15 (nI 0)) hW ⟨rfl, rfl, rfl, rfl, rfl, rfl, rfl, rfl, rfl, rfl, rfl, rfl, rfl, rfl, rfl, rfl, rfl⟩
  refine lv_aload_n hx hb dX5_offers_5 rfl (lv_at hl 0 rfl) ?_
  refine mg_7 X rfl hW dX5_offers_6 ?_
  refine lv_sipush (v := nI 160) hx hb dX5_offers_9 (by decide) ?_
  refine m_ld (v := (nI n)) X hW 0 (by decide) rfl 160 rfl (by decide) (show (S.1 0) 160 = (nI n) from hN) dX5_offers_12 ?_
  exact r_iret X hL rfl rfl dX5_offers_13 (by omega) (by omega) ⟨uS S 15 (nI 0), AP.mk (t := 0) (v := some (.int (nI n))) (X := S) rfl ⟨rfl, rfl, rfl, rfl, rfl, rfl, rfl, rfl⟩ rfl rfl, hW, hO⟩
theorem vb_X5_offers : VB yX5_offers cX5_offers 1 (some .int) 0 := ⟨q2044, q2045, q111, q2046, ⟨by decide, by decide, by decide +kernel⟩⟩

set_option maxRecDepth 100000 in
set_option maxHeartbeats 4000000 in
theorem ct_X5_valueOf (l : Launch) (g : GT) (o n : Nat) (S : MS) (i q : Int32) (hN : S.1 0 160 = nI n) (hn : n ≤ 40) : Ct l g yX5_valueOf cX5_valueOf 3 (some .int) 4 0 0 [.ref o, .int i, .int q] (MW g o S) (fun r H H1 => ∃ S1, AP S1 (s_val S n i q) r ∧ MW g o S1 H1 ∧ Off o H H1) := by
  refine Ct.of (by decide) (Nat.le_of_ble_eq_true rfl) ?_
  intro p e s m args below meth c X hP ls hl
  have hx := X.1
  have hb := X.2.1
  have hKV := X.2.2.2.2.2.2.2.1.1
  have hL : ∀ q ∈ ([] : List Loc), gLo g ≤ q.base := fun _ h => by cases h
  have hl : lv_has ls 3 [(0, .ref o), (1, .int i), (2, .int q)] := hl
  have hW : MW g o S s.heap := hP
  have hO : Off o s.heap s.heap := Off.rfl'
  refine lv_aload_n hx hb dX5_valueOf_0 rfl (lv_at hl 0 rfl) ?_
  refine lv_iconst (v := nI 0) hx hb dX5_valueOf_1 (by decide) ?_
  refine mp_38 X rfl hL hW dX5_valueOf_2 (fun H locs hL hW hO1 => ?_)
  have hO := hO.trans hO1
  have hW := MW.cast (S1 := uS S 15 (nI 0)) hW ⟨rfl, rfl, rfl, rfl, rfl, rfl, rfl, rfl, rfl, rfl, rfl, rfl, rfl, rfl, rfl, rfl, rfl⟩
  refine lv_aload_n hx hb dX5_valueOf_5 rfl (lv_at hl 0 rfl) ?_
  refine lv_iload_n hx hb dX5_valueOf_6 rfl (lv_at hl 1 rfl) ?_
  refine Cp.callV (v := .int (bI (noB n i))) (ct_X5_isNone l g o n (uS S 15 (nI 0)) i hN hn) X hL hl vb_X5_isNone q1900 (hW.2.1.recv hKV rfl) rfl rfl (Nat.le_of_ble_eq_true rfl) dX5_valueOf_7 ⟨Nat.le_of_ble_eq_true rfl, Nat.le_of_ble_eq_true rfl⟩ (by omega) (by omega) hW (fun locs hL => ?_)
  refine b_ifne (tgt := 20) X dX5_valueOf_10 (by decide) (fun c_10 => ?_) (fun c_10 => ?_)
  ·
    refine lv_aload_n hx hb dX5_valueOf_20 rfl (lv_at hl 0 rfl) ?_
    refine lv_iconst (v := nI 1) hx hb dX5_valueOf_21 (by decide) ?_
    refine Ct.callV (ct_X5_fails l g o (uS S 15 (nI 0)) (nI 1) ) X hL hl vb_X5_fails q1904 (hW.2.1.recv hKV rfl) rfl rfl (Nat.le_of_ble_eq_true rfl) dX5_valueOf_22 ⟨Nat.le_of_ble_eq_true rfl, Nat.le_of_ble_eq_true rfl⟩ (by omega) (by omega) hW (fun r H1 locs hL hp => ?_)
    obtain ⟨rfl, hW, hO1⟩ := hp
    have hO := hO.trans hO1
    have hW := MW.cast (S1 := uS S 15 (nI 1)) hW ⟨rfl, rfl, rfl, rfl, rfl, rfl, rfl, rfl, rfl, rfl, rfl, rfl, rfl, rfl, rfl, rfl, rfl⟩
    refine lv_goto (tgt := 34) hx hb dX5_valueOf_25 (by decide) ?_
    exact r_iret X hL rfl rfl dX5_valueOf_34 (by omega) (by omega) ⟨uS S 15 (nI 1), AP.mk (t := 1) (v := some (.int (nI 0))) (X := S) (by simp [s_val, x_, q_, vI, bI_T, bI_F, noS, c_10]) ⟨rfl, rfl, rfl, rfl, rfl, rfl, rfl, rfl⟩ rfl rfl, hW, hO⟩
  ·
    refine lv_iload_n hx hb dX5_valueOf_13 rfl (lv_at hl 2 rfl) ?_
    refine Cp.callS (v := .int (bI (!inB q (nI 0) (nI 3)))) (ct_X5_isNoSide l g q ) X hL hl sb_X5_isNoSide q1916 rfl rfl (Nat.le_of_ble_eq_true rfl) dX5_valueOf_14 ⟨Nat.le_of_ble_eq_true rfl, Nat.le_of_ble_eq_true rfl⟩ (by omega) (by omega) trivial (fun locs hL => ?_)
    refine b_ifeq (tgt := 28) X dX5_valueOf_17 (by decide) (fun c_17 => ?_) (fun c_17 => ?_)
    ·
      obtain ⟨hic, hil⟩ := noB_nat hn c_10
      obtain ⟨hqc, hql⟩ := noS_nat c_17
      refine lv_aload_n hx hb dX5_valueOf_28 rfl (lv_at hl 0 rfl) ?_
      refine lv_iload_n hx hb dX5_valueOf_29 rfl (lv_at hl 1 rfl) ?_
      refine W.stk (w := (nI i.toNatClampNeg)) hic ?_
      refine lv_iload_n hx hb dX5_valueOf_30 rfl (lv_at hl 2 rfl) ?_
      refine W.stk (w := (nI q.toNatClampNeg)) hqc ?_
      refine Cp.callV (v := .int (S.1 0 (4 * i.toNatClampNeg + q.toNatClampNeg))) (ct_X5_value l g o i.toNatClampNeg q.toNatClampNeg (uS S 15 (nI 0)) (by omega) (by omega)) X hL hl vb_X5_value q1919 (hW.2.1.recv hKV rfl) rfl rfl (Nat.le_of_ble_eq_true rfl) dX5_valueOf_31 ⟨Nat.le_of_ble_eq_true rfl, Nat.le_of_ble_eq_true rfl⟩ (by omega) (by omega) hW (fun locs hL => ?_)
      exact r_iret X hL rfl rfl dX5_valueOf_34 (by omega) (by omega) ⟨uS S 15 (nI 0), AP.mk (t := 0) (v := some (.int (S.1 0 (4 * i.toNatClampNeg + q.toNatClampNeg)))) (X := S) (by simp [s_val, x_, q_, vI, bI_T, bI_F, noS, c_10, c_17]) ⟨rfl, rfl, rfl, rfl, rfl, rfl, rfl, rfl⟩ rfl rfl, hW, hO⟩
    ·
      refine lv_aload_n hx hb dX5_valueOf_20 rfl (lv_at hl 0 rfl) ?_
      refine lv_iconst (v := nI 1) hx hb dX5_valueOf_21 (by decide) ?_
      refine Ct.callV (ct_X5_fails l g o (uS S 15 (nI 0)) (nI 1) ) X hL hl vb_X5_fails q1904 (hW.2.1.recv hKV rfl) rfl rfl (Nat.le_of_ble_eq_true rfl) dX5_valueOf_22 ⟨Nat.le_of_ble_eq_true rfl, Nat.le_of_ble_eq_true rfl⟩ (by omega) (by omega) hW (fun r H1 locs hL hp => ?_)
      obtain ⟨rfl, hW, hO1⟩ := hp
      have hO := hO.trans hO1
      have hW := MW.cast (S1 := uS S 15 (nI 1)) hW ⟨rfl, rfl, rfl, rfl, rfl, rfl, rfl, rfl, rfl, rfl, rfl, rfl, rfl, rfl, rfl, rfl, rfl⟩
      refine lv_goto (tgt := 34) hx hb dX5_valueOf_25 (by decide) ?_
      exact r_iret X hL rfl rfl dX5_valueOf_34 (by omega) (by omega) ⟨uS S 15 (nI 1), AP.mk (t := 1) (v := some (.int (nI 0))) (X := S) (by simp [s_val, x_, q_, vI, bI_T, bI_F, noS, c_10, c_17]) ⟨rfl, rfl, rfl, rfl, rfl, rfl, rfl, rfl⟩ rfl rfl, hW, hO⟩
theorem vb_X5_valueOf : VB yX5_valueOf cX5_valueOf 3 (some .int) 2 := ⟨q2048, q2049, q111, q2050, ⟨by decide, by decide, by decide +kernel⟩⟩

set_option maxRecDepth 100000 in
set_option maxHeartbeats 4000000 in
theorem ct_X5_ofSide (l : Launch) (g : GT) (o b : Nat) (S : MS) (q : Int32) (hbb : b ≤ 173) : Ct l g yX5_ofSide cX5_ofSide 3 (some .int) 4 0 0 [.ref o, .int (nI b), .int q] (MW g o S) (fun r H H1 => ∃ S1, AP S1 (s_of S b q) r ∧ MW g o S1 H1 ∧ Off o H H1) := by
  refine Ct.of (by decide) (Nat.le_of_ble_eq_true rfl) ?_
  intro p e s m args below meth c X hP ls hl
  have hx := X.1
  have hb := X.2.1
  have hKV := X.2.2.2.2.2.2.2.1.1
  have hL : ∀ q ∈ ([] : List Loc), gLo g ≤ q.base := fun _ h => by cases h
  have hl : lv_has ls 3 [(0, .ref o), (1, .int (nI b)), (2, .int q)] := hl
  have hW : MW g o S s.heap := hP
  have hO : Off o s.heap s.heap := Off.rfl'
  refine lv_aload_n hx hb dX5_ofSide_0 rfl (lv_at hl 0 rfl) ?_
  refine lv_iconst (v := nI 0) hx hb dX5_ofSide_1 (by decide) ?_
  refine mp_38 X rfl hL hW dX5_ofSide_2 (fun H locs hL hW hO1 => ?_)
  have hO := hO.trans hO1
  have hW := MW.cast (S1 := uS S 15 (nI 0)) hW ⟨rfl, rfl, rfl, rfl, rfl, rfl, rfl, rfl, rfl, rfl, rfl, rfl, rfl, rfl, rfl, rfl, rfl⟩
  refine lv_iload_n hx hb dX5_ofSide_5 rfl (lv_at hl 2 rfl) ?_
  refine Cp.callS (v := .int (bI (!inB q (nI 0) (nI 3)))) (ct_X5_isNoSide l g q ) X hL hl sb_X5_isNoSide q1916 rfl rfl (Nat.le_of_ble_eq_true rfl) dX5_ofSide_6 ⟨Nat.le_of_ble_eq_true rfl, Nat.le_of_ble_eq_true rfl⟩ (by omega) (by omega) trivial (fun locs hL => ?_)
  refine b_ifeq (tgt := 20) X dX5_ofSide_9 (by decide) (fun c_9 => ?_) (fun c_9 => ?_)
  ·
    obtain ⟨hqc, hql⟩ := noS_nat c_9
    refine lv_aload_n hx hb dX5_ofSide_20 rfl (lv_at hl 0 rfl) ?_
    refine mg_7 X rfl hW dX5_ofSide_21 ?_
    refine lv_iload_n hx hb dX5_ofSide_24 rfl (lv_at hl 1 rfl) ?_
    refine lv_iload_n hx hb dX5_ofSide_25 rfl (lv_at hl 2 rfl) ?_
    refine W.stk (w := (nI q.toNatClampNeg)) hqc ?_
    refine n_iadd X dX5_ofSide_26 ?_
    refine m_ld (v := ((S.1 0) (b + q.toNatClampNeg))) X hW 0 (by decide) rfl (b + q.toNatClampNeg) rfl (by show b + q.toNatClampNeg < 179; omega) rfl dX5_ofSide_27 ?_
    exact r_iret X hL rfl rfl dX5_ofSide_28 (by omega) (by omega) ⟨uS S 15 (nI 0), AP.mk (t := 0) (v := some (.int ((S.1 0) (b + q.toNatClampNeg)))) (X := S) (by simp [s_of, x_, q_, vI, bI_T, bI_F, noS, c_9]) ⟨rfl, rfl, rfl, rfl, rfl, rfl, rfl, rfl⟩ rfl rfl, hW, hO⟩
  ·
    refine lv_aload_n hx hb dX5_ofSide_12 rfl (lv_at hl 0 rfl) ?_
    refine lv_iconst (v := nI 1) hx hb dX5_ofSide_13 (by decide) ?_
    refine Ct.callV (ct_X5_fails l g o (uS S 15 (nI 0)) (nI 1) ) X hL hl vb_X5_fails q1904 (hW.2.1.recv hKV rfl) rfl rfl (Nat.le_of_ble_eq_true rfl) dX5_ofSide_14 ⟨Nat.le_of_ble_eq_true rfl, Nat.le_of_ble_eq_true rfl⟩ (by omega) (by omega) hW (fun r H1 locs hL hp => ?_)
    obtain ⟨rfl, hW, hO1⟩ := hp
    have hO := hO.trans hO1
    have hW := MW.cast (S1 := uS S 15 (nI 1)) hW ⟨rfl, rfl, rfl, rfl, rfl, rfl, rfl, rfl, rfl, rfl, rfl, rfl, rfl, rfl, rfl, rfl, rfl⟩
    refine lv_goto (tgt := 28) hx hb dX5_ofSide_17 (by decide) ?_
    exact r_iret X hL rfl rfl dX5_ofSide_28 (by omega) (by omega) ⟨uS S 15 (nI 1), AP.mk (t := 1) (v := some (.int (nI 0))) (X := S) (by simp [s_of, x_, q_, vI, bI_T, bI_F, noS, c_9]) ⟨rfl, rfl, rfl, rfl, rfl, rfl, rfl, rfl⟩ rfl rfl, hW, hO⟩
theorem vb_X5_ofSide : VB yX5_ofSide cX5_ofSide 3 (some .int) 2 := ⟨q2057, qs77, q111, q2058, ⟨by decide, by decide, by decide +kernel⟩⟩

set_option maxRecDepth 100000 in
set_option maxHeartbeats 4000000 in
theorem ct_X5_wishOf (l : Launch) (g : GT) (o : Nat) (S : MS) (q : Int32)  : Ct l g yX5_wishOf cX5_wishOf 2 (some .int) 5 0 0 [.ref o, .int q] (MW g o S) (fun r H H1 => ∃ S1, AP S1 (s_of S 161 q) r ∧ MW g o S1 H1 ∧ Off o H H1) := by
  refine Ct.of (by decide) (Nat.le_of_ble_eq_true rfl) ?_
  intro p e s m args below meth c X hP ls hl
  have hx := X.1
  have hb := X.2.1
  have hKV := X.2.2.2.2.2.2.2.1.1
  have hL : ∀ q ∈ ([] : List Loc), gLo g ≤ q.base := fun _ h => by cases h
  have hl : lv_has ls 2 [(0, .ref o), (1, .int q)] := hl
  have hW : MW g o S s.heap := hP
  have hO : Off o s.heap s.heap := Off.rfl'
  refine lv_aload_n hx hb dX5_wishOf_0 rfl (lv_at hl 0 rfl) ?_
  refine lv_sipush (v := nI 161) hx hb dX5_wishOf_1 (by decide) ?_
  refine lv_iload_n hx hb dX5_wishOf_4 rfl (lv_at hl 1 rfl) ?_
  refine Ct.callV (ct_X5_ofSide l g o 161 S q (by omega)) X hL hl vb_X5_ofSide q2055 (hW.2.1.recv hKV rfl) rfl rfl (Nat.le_of_ble_eq_true rfl) dX5_wishOf_5 ⟨Nat.le_of_ble_eq_true rfl, Nat.le_of_ble_eq_true rfl⟩ (by omega) (by omega) hW (fun r H1 locs hL hp => ?_)
  obtain ⟨S1, ⟨h1, h2, h3⟩, hW, hO1⟩ := hp
  obtain ⟨v, hv⟩ : ∃ v, (s_of S 161 q).2.1 = some (.int v) := by unfold s_of; (repeat first | exact ⟨_, rfl⟩ | split)
  rw [hv] at h3
  subst h3
  exact r_iret X hL rfl rfl dX5_wishOf_8 (by omega) (by omega) ⟨S1, ⟨h1, h2, hv.symm⟩, hW, hO.trans hO1⟩
theorem vb_X5_wishOf : VB yX5_wishOf cX5_wishOf 2 (some .int) 1 := ⟨q2052, q2053, q111, q2054, ⟨by decide, by decide, by decide +kernel⟩⟩

set_option maxRecDepth 100000 in
set_option maxHeartbeats 4000000 in
theorem ct_X5_leastOf (l : Launch) (g : GT) (o : Nat) (S : MS) (q : Int32)  : Ct l g yX5_leastOf cX5_leastOf 2 (some .int) 5 0 0 [.ref o, .int q] (MW g o S) (fun r H H1 => ∃ S1, AP S1 (s_of S 165 q) r ∧ MW g o S1 H1 ∧ Off o H H1) := by
  refine Ct.of (by decide) (Nat.le_of_ble_eq_true rfl) ?_
  intro p e s m args below meth c X hP ls hl
  have hx := X.1
  have hb := X.2.1
  have hKV := X.2.2.2.2.2.2.2.1.1
  have hL : ∀ q ∈ ([] : List Loc), gLo g ≤ q.base := fun _ h => by cases h
  have hl : lv_has ls 2 [(0, .ref o), (1, .int q)] := hl
  have hW : MW g o S s.heap := hP
  have hO : Off o s.heap s.heap := Off.rfl'
  refine lv_aload_n hx hb dX5_leastOf_0 rfl (lv_at hl 0 rfl) ?_
  refine lv_sipush (v := nI 165) hx hb dX5_leastOf_1 (by decide) ?_
  refine lv_iload_n hx hb dX5_leastOf_4 rfl (lv_at hl 1 rfl) ?_
  refine Ct.callV (ct_X5_ofSide l g o 165 S q (by omega)) X hL hl vb_X5_ofSide q2055 (hW.2.1.recv hKV rfl) rfl rfl (Nat.le_of_ble_eq_true rfl) dX5_leastOf_5 ⟨Nat.le_of_ble_eq_true rfl, Nat.le_of_ble_eq_true rfl⟩ (by omega) (by omega) hW (fun r H1 locs hL hp => ?_)
  obtain ⟨S1, ⟨h1, h2, h3⟩, hW, hO1⟩ := hp
  obtain ⟨v, hv⟩ : ∃ v, (s_of S 165 q).2.1 = some (.int v) := by unfold s_of; (repeat first | exact ⟨_, rfl⟩ | split)
  rw [hv] at h3
  subst h3
  exact r_iret X hL rfl rfl dX5_leastOf_8 (by omega) (by omega) ⟨S1, ⟨h1, h2, hv.symm⟩, hW, hO.trans hO1⟩
theorem vb_X5_leastOf : VB yX5_leastOf cX5_leastOf 2 (some .int) 1 := ⟨q2060, q2061, q111, q2062, ⟨by decide, by decide, by decide +kernel⟩⟩

set_option maxRecDepth 100000 in
set_option maxHeartbeats 4000000 in
theorem ct_X5_mostOf (l : Launch) (g : GT) (o : Nat) (S : MS) (q : Int32)  : Ct l g yX5_mostOf cX5_mostOf 2 (some .int) 5 0 0 [.ref o, .int q] (MW g o S) (fun r H H1 => ∃ S1, AP S1 (s_of S 169 q) r ∧ MW g o S1 H1 ∧ Off o H H1) := by
  refine Ct.of (by decide) (Nat.le_of_ble_eq_true rfl) ?_
  intro p e s m args below meth c X hP ls hl
  have hx := X.1
  have hb := X.2.1
  have hKV := X.2.2.2.2.2.2.2.1.1
  have hL : ∀ q ∈ ([] : List Loc), gLo g ≤ q.base := fun _ h => by cases h
  have hl : lv_has ls 2 [(0, .ref o), (1, .int q)] := hl
  have hW : MW g o S s.heap := hP
  have hO : Off o s.heap s.heap := Off.rfl'
  refine lv_aload_n hx hb dX5_mostOf_0 rfl (lv_at hl 0 rfl) ?_
  refine lv_sipush (v := nI 169) hx hb dX5_mostOf_1 (by decide) ?_
  refine lv_iload_n hx hb dX5_mostOf_4 rfl (lv_at hl 1 rfl) ?_
  refine Ct.callV (ct_X5_ofSide l g o 169 S q (by omega)) X hL hl vb_X5_ofSide q2055 (hW.2.1.recv hKV rfl) rfl rfl (Nat.le_of_ble_eq_true rfl) dX5_mostOf_5 ⟨Nat.le_of_ble_eq_true rfl, Nat.le_of_ble_eq_true rfl⟩ (by omega) (by omega) hW (fun r H1 locs hL hp => ?_)
  obtain ⟨S1, ⟨h1, h2, h3⟩, hW, hO1⟩ := hp
  obtain ⟨v, hv⟩ : ∃ v, (s_of S 169 q).2.1 = some (.int v) := by unfold s_of; (repeat first | exact ⟨_, rfl⟩ | split)
  rw [hv] at h3
  subst h3
  exact r_iret X hL rfl rfl dX5_mostOf_8 (by omega) (by omega) ⟨S1, ⟨h1, h2, hv.symm⟩, hW, hO.trans hO1⟩
theorem vb_X5_mostOf : VB yX5_mostOf cX5_mostOf 2 (some .int) 1 := ⟨q2064, q2065, q111, q2066, ⟨by decide, by decide, by decide +kernel⟩⟩

set_option maxRecDepth 100000 in
set_option maxHeartbeats 4000000 in
theorem ct_X5_weightOf (l : Launch) (g : GT) (o : Nat) (S : MS) (q : Int32)  : Ct l g yX5_weightOf cX5_weightOf 2 (some .int) 5 0 0 [.ref o, .int q] (MW g o S) (fun r H H1 => ∃ S1, AP S1 (s_of S 173 q) r ∧ MW g o S1 H1 ∧ Off o H H1) := by
  refine Ct.of (by decide) (Nat.le_of_ble_eq_true rfl) ?_
  intro p e s m args below meth c X hP ls hl
  have hx := X.1
  have hb := X.2.1
  have hKV := X.2.2.2.2.2.2.2.1.1
  have hL : ∀ q ∈ ([] : List Loc), gLo g ≤ q.base := fun _ h => by cases h
  have hl : lv_has ls 2 [(0, .ref o), (1, .int q)] := hl
  have hW : MW g o S s.heap := hP
  have hO : Off o s.heap s.heap := Off.rfl'
  refine lv_aload_n hx hb dX5_weightOf_0 rfl (lv_at hl 0 rfl) ?_
  refine lv_sipush (v := nI 173) hx hb dX5_weightOf_1 (by decide) ?_
  refine lv_iload_n hx hb dX5_weightOf_4 rfl (lv_at hl 1 rfl) ?_
  refine Ct.callV (ct_X5_ofSide l g o 173 S q (by omega)) X hL hl vb_X5_ofSide q2055 (hW.2.1.recv hKV rfl) rfl rfl (Nat.le_of_ble_eq_true rfl) dX5_weightOf_5 ⟨Nat.le_of_ble_eq_true rfl, Nat.le_of_ble_eq_true rfl⟩ (by omega) (by omega) hW (fun r H1 locs hL hp => ?_)
  obtain ⟨S1, ⟨h1, h2, h3⟩, hW, hO1⟩ := hp
  obtain ⟨v, hv⟩ : ∃ v, (s_of S 173 q).2.1 = some (.int v) := by unfold s_of; (repeat first | exact ⟨_, rfl⟩ | split)
  rw [hv] at h3
  subst h3
  exact r_iret X hL rfl rfl dX5_weightOf_8 (by omega) (by omega) ⟨S1, ⟨h1, h2, hv.symm⟩, hW, hO.trans hO1⟩
theorem vb_X5_weightOf : VB yX5_weightOf cX5_weightOf 2 (some .int) 1 := ⟨q2068, q2069, q111, q2070, ⟨by decide, by decide, by decide +kernel⟩⟩

set_option maxRecDepth 100000 in
set_option maxHeartbeats 4000000 in
theorem ct_X5_isCounted (l : Launch) (g : GT) (o n : Nat) (S : MS) (i : Int32) (hN : S.1 0 160 = nI n) (hn : n ≤ 40) : Ct l g yX5_isCounted cX5_isCounted 2 (some .boolean) 4 0 0 [.ref o, .int i] (MW g o S) (fun r H H1 => ∃ S1, AP S1 (s_one S n i (fun i => bI (cB (S.1 0) i))) r ∧ MW g o S1 H1 ∧ Off o H H1) := by
  refine Ct.of (by decide) (Nat.le_of_ble_eq_true rfl) ?_
  intro p e s m args below meth c X hP ls hl
  have hx := X.1
  have hb := X.2.1
  have hKV := X.2.2.2.2.2.2.2.1.1
  have hL : ∀ q ∈ ([] : List Loc), gLo g ≤ q.base := fun _ h => by cases h
  have hl : lv_has ls 2 [(0, .ref o), (1, .int i)] := hl
  have hW : MW g o S s.heap := hP
  have hO : Off o s.heap s.heap := Off.rfl'
  refine lv_aload_n hx hb dX5_isCounted_0 rfl (lv_at hl 0 rfl) ?_
  refine lv_aload_n hx hb dX5_isCounted_1 rfl (lv_at hl 0 rfl) ?_
  refine lv_iload_n hx hb dX5_isCounted_2 rfl (lv_at hl 1 rfl) ?_
  refine Cp.callV (v := .int (bI (noB n i))) (ct_X5_isNone l g o n S i hN hn) X hL hl vb_X5_isNone q1900 (hW.2.1.recv hKV rfl) rfl rfl (Nat.le_of_ble_eq_true rfl) dX5_isCounted_3 ⟨Nat.le_of_ble_eq_true rfl, Nat.le_of_ble_eq_true rfl⟩ (by omega) (by omega) hW (fun locs hL => ?_)
  refine b_ifeq (tgt := 13) X dX5_isCounted_6 (by decide) (fun c_6 => ?_) (fun c_6 => ?_)
  ·
    refine lv_iconst (v := nI 0) hx hb dX5_isCounted_13 (by decide) ?_
    refine mp_38 X rfl hL hW dX5_isCounted_14 (fun H locs hL hW hO1 => ?_)
    have hO := hO.trans hO1
    have hW := MW.cast (S1 := uS S 15 (nI 0)) hW ⟨rfl, rfl, rfl, rfl, rfl, rfl, rfl, rfl, rfl, rfl, rfl, rfl, rfl, rfl, rfl, rfl, rfl⟩
    refine lv_aload_n hx hb dX5_isCounted_17 rfl (lv_at hl 0 rfl) ?_
    refine mg_38 X rfl hW dX5_isCounted_18 (W.stk (w := (nI 0)) rfl ?_)
    refine n_ifne (tgt := 36) X dX5_isCounted_21 (by decide) (by omega) (fun c_21 => ?_) (fun c_21 => ?_)
    ·
      exact absurd c_21 (by decide)
    ·
      obtain ⟨hic, hil⟩ := noB_nat hn c_6
      refine lv_aload_n hx hb dX5_isCounted_24 rfl (lv_at hl 0 rfl) ?_
      refine lv_iload_n hx hb dX5_isCounted_25 rfl (lv_at hl 1 rfl) ?_
      refine W.stk (w := (nI i.toNatClampNeg)) hic ?_
      refine Cp.callV (v := .int (bI (cB (S.1 0) i.toNatClampNeg))) (ct_X5_counts l g o i.toNatClampNeg (uS S 15 (nI 0)) (by omega)) X hL hl vb_X5_counts q1939 (hW.2.1.recv hKV rfl) rfl rfl (Nat.le_of_ble_eq_true rfl) dX5_isCounted_26 ⟨Nat.le_of_ble_eq_true rfl, Nat.le_of_ble_eq_true rfl⟩ (by omega) (by omega) hW (fun locs hL => ?_)
      refine b_ifeq (tgt := 36) X dX5_isCounted_29 (by decide) (fun c_29 => ?_) (fun c_29 => ?_)
      ·
        refine lv_iconst (v := nI 0) hx hb dX5_isCounted_36 (by decide) ?_
        exact r_iret X hL rfl rfl dX5_isCounted_37 (by omega) (by omega) ⟨uS S 15 (nI 0), AP.mk (t := 0) (v := some (.int (nI 0))) (X := S) (by simp [s_one, x_, q_, vI, bI_T, bI_F, c_6, c_29]) ⟨rfl, rfl, rfl, rfl, rfl, rfl, rfl, rfl⟩ rfl rfl, hW, hO⟩
      ·
        refine lv_iconst (v := nI 1) hx hb dX5_isCounted_32 (by decide) ?_
        refine lv_goto (tgt := 37) hx hb dX5_isCounted_33 (by decide) ?_
        exact r_iret X hL rfl rfl dX5_isCounted_37 (by omega) (by omega) ⟨uS S 15 (nI 0), AP.mk (t := 0) (v := some (.int (nI 1))) (X := S) (by simp [s_one, x_, q_, vI, bI_T, bI_F, c_6, c_29]) ⟨rfl, rfl, rfl, rfl, rfl, rfl, rfl, rfl⟩ rfl rfl, hW, hO⟩
  ·
    refine lv_iconst (v := nI 1) hx hb dX5_isCounted_9 (by decide) ?_
    refine lv_goto (tgt := 14) hx hb dX5_isCounted_10 (by decide) ?_
    refine mp_38 X rfl hL hW dX5_isCounted_14 (fun H locs hL hW hO1 => ?_)
    have hO := hO.trans hO1
    have hW := MW.cast (S1 := uS S 15 (nI 1)) hW ⟨rfl, rfl, rfl, rfl, rfl, rfl, rfl, rfl, rfl, rfl, rfl, rfl, rfl, rfl, rfl, rfl, rfl⟩
    refine lv_aload_n hx hb dX5_isCounted_17 rfl (lv_at hl 0 rfl) ?_
    refine mg_38 X rfl hW dX5_isCounted_18 (W.stk (w := (nI 1)) rfl ?_)
    refine n_ifne (tgt := 36) X dX5_isCounted_21 (by decide) (by omega) (fun c_21 => ?_) (fun c_21 => ?_)
    ·
      refine lv_iconst (v := nI 0) hx hb dX5_isCounted_36 (by decide) ?_
      exact r_iret X hL rfl rfl dX5_isCounted_37 (by omega) (by omega) ⟨uS S 15 (nI 1), AP.mk (t := 1) (v := some (.int (nI 0))) (X := S) (by simp [s_one, x_, q_, vI, bI_T, bI_F, c_6]) ⟨rfl, rfl, rfl, rfl, rfl, rfl, rfl, rfl⟩ rfl rfl, hW, hO⟩
    ·
      exact absurd c_21 (by decide)
theorem vb_X5_isCounted : VB yX5_isCounted cX5_isCounted 2 (some .boolean) 1 := ⟨q2072, q2073, q111, q2074, ⟨by decide, by decide, by decide +kernel⟩⟩

set_option maxRecDepth 100000 in
set_option maxHeartbeats 4000000 in
theorem ct_X5_isToldByPairs (l : Launch) (g : GT) (o n : Nat) (S : MS) (i : Int32) (hN : S.1 0 160 = nI n) (hn : n ≤ 40) : Ct l g yX5_isToldByPairs cX5_isToldByPairs 2 (some .boolean) 8 0 0 [.ref o, .int i] (MW g o S) (fun r H H1 => ∃ S1, AP S1 (s_one S n i (fun i => bI (isTB (S.1 0) n i))) r ∧ MW g o S1 H1 ∧ Off o H H1) := by
  refine Ct.of (by decide) (Nat.le_of_ble_eq_true rfl) ?_
  intro p e s m args below meth c X hP ls hl
  have hx := X.1
  have hb := X.2.1
  have hKV := X.2.2.2.2.2.2.2.1.1
  have hL : ∀ q ∈ ([] : List Loc), gLo g ≤ q.base := fun _ h => by cases h
  have hl : lv_has ls 2 [(0, .ref o), (1, .int i)] := hl
  have hW : MW g o S s.heap := hP
  have hO : Off o s.heap s.heap := Off.rfl'
  refine lv_aload_n hx hb dX5_isToldByPairs_0 rfl (lv_at hl 0 rfl) ?_
  refine lv_aload_n hx hb dX5_isToldByPairs_1 rfl (lv_at hl 0 rfl) ?_
  refine lv_iload_n hx hb dX5_isToldByPairs_2 rfl (lv_at hl 1 rfl) ?_
  refine Cp.callV (v := .int (bI (noB n i))) (ct_X5_isNone l g o n S i hN hn) X hL hl vb_X5_isNone q1900 (hW.2.1.recv hKV rfl) rfl rfl (Nat.le_of_ble_eq_true rfl) dX5_isToldByPairs_3 ⟨Nat.le_of_ble_eq_true rfl, Nat.le_of_ble_eq_true rfl⟩ (by omega) (by omega) hW (fun locs hL => ?_)
  refine b_ifeq (tgt := 13) X dX5_isToldByPairs_6 (by decide) (fun c_6 => ?_) (fun c_6 => ?_)
  ·
    refine lv_iconst (v := nI 0) hx hb dX5_isToldByPairs_13 (by decide) ?_
    refine mp_38 X rfl hL hW dX5_isToldByPairs_14 (fun H locs hL hW hO1 => ?_)
    have hO := hO.trans hO1
    have hW := MW.cast (S1 := uS S 15 (nI 0)) hW ⟨rfl, rfl, rfl, rfl, rfl, rfl, rfl, rfl, rfl, rfl, rfl, rfl, rfl, rfl, rfl, rfl, rfl⟩
    refine lv_aload_n hx hb dX5_isToldByPairs_17 rfl (lv_at hl 0 rfl) ?_
    refine mg_38 X rfl hW dX5_isToldByPairs_18 (W.stk (w := (nI 0)) rfl ?_)
    refine n_ifne (tgt := 36) X dX5_isToldByPairs_21 (by decide) (by omega) (fun c_21 => ?_) (fun c_21 => ?_)
    ·
      exact absurd c_21 (by decide)
    ·
      obtain ⟨hic, hil⟩ := noB_nat hn c_6
      refine lv_aload_n hx hb dX5_isToldByPairs_24 rfl (lv_at hl 0 rfl) ?_
      refine lv_iload_n hx hb dX5_isToldByPairs_25 rfl (lv_at hl 1 rfl) ?_
      refine W.stk (w := (nI i.toNatClampNeg)) hic ?_
      refine Cp.callV (v := .int (bI (isTB (S.1 0) n i.toNatClampNeg))) (ct_X5_isTold l g o n i.toNatClampNeg (uS S 15 (nI 0)) hN hn (by omega)) X hL hl vb_X5_isTold q2111 (hW.2.1.recv hKV rfl) rfl rfl (Nat.le_of_ble_eq_true rfl) dX5_isToldByPairs_26 ⟨Nat.le_of_ble_eq_true rfl, Nat.le_of_ble_eq_true rfl⟩ (by omega) (by omega) hW (fun locs hL => ?_)
      refine b_ifeq (tgt := 36) X dX5_isToldByPairs_29 (by decide) (fun c_29 => ?_) (fun c_29 => ?_)
      ·
        refine lv_iconst (v := nI 0) hx hb dX5_isToldByPairs_36 (by decide) ?_
        exact r_iret X hL rfl rfl dX5_isToldByPairs_37 (by omega) (by omega) ⟨uS S 15 (nI 0), AP.mk (t := 0) (v := some (.int (nI 0))) (X := S) (by simp [s_one, x_, q_, vI, bI_T, bI_F, c_6, c_29]) ⟨rfl, rfl, rfl, rfl, rfl, rfl, rfl, rfl⟩ rfl rfl, hW, hO⟩
      ·
        refine lv_iconst (v := nI 1) hx hb dX5_isToldByPairs_32 (by decide) ?_
        refine lv_goto (tgt := 37) hx hb dX5_isToldByPairs_33 (by decide) ?_
        exact r_iret X hL rfl rfl dX5_isToldByPairs_37 (by omega) (by omega) ⟨uS S 15 (nI 0), AP.mk (t := 0) (v := some (.int (nI 1))) (X := S) (by simp [s_one, x_, q_, vI, bI_T, bI_F, c_6, c_29]) ⟨rfl, rfl, rfl, rfl, rfl, rfl, rfl, rfl⟩ rfl rfl, hW, hO⟩
  ·
    refine lv_iconst (v := nI 1) hx hb dX5_isToldByPairs_9 (by decide) ?_
    refine lv_goto (tgt := 14) hx hb dX5_isToldByPairs_10 (by decide) ?_
    refine mp_38 X rfl hL hW dX5_isToldByPairs_14 (fun H locs hL hW hO1 => ?_)
    have hO := hO.trans hO1
    have hW := MW.cast (S1 := uS S 15 (nI 1)) hW ⟨rfl, rfl, rfl, rfl, rfl, rfl, rfl, rfl, rfl, rfl, rfl, rfl, rfl, rfl, rfl, rfl, rfl⟩
    refine lv_aload_n hx hb dX5_isToldByPairs_17 rfl (lv_at hl 0 rfl) ?_
    refine mg_38 X rfl hW dX5_isToldByPairs_18 (W.stk (w := (nI 1)) rfl ?_)
    refine n_ifne (tgt := 36) X dX5_isToldByPairs_21 (by decide) (by omega) (fun c_21 => ?_) (fun c_21 => ?_)
    ·
      refine lv_iconst (v := nI 0) hx hb dX5_isToldByPairs_36 (by decide) ?_
      exact r_iret X hL rfl rfl dX5_isToldByPairs_37 (by omega) (by omega) ⟨uS S 15 (nI 1), AP.mk (t := 1) (v := some (.int (nI 0))) (X := S) (by simp [s_one, x_, q_, vI, bI_T, bI_F, c_6]) ⟨rfl, rfl, rfl, rfl, rfl, rfl, rfl, rfl⟩ rfl rfl, hW, hO⟩
    ·
      exact absurd c_21 (by decide)
theorem vb_X5_isToldByPairs : VB yX5_isToldByPairs cX5_isToldByPairs 2 (some .boolean) 1 := ⟨q2108, q2109, q111, q2110, ⟨by decide, by decide, by decide +kernel⟩⟩

set_option maxRecDepth 100000 in
set_option maxHeartbeats 4000000 in
theorem ct_X5_isToldByWindow (l : Launch) (g : GT) (o n : Nat) (S : MS) (i : Int32) (hN : S.1 0 160 = nI n) (hn : n ≤ 40) : Ct l g yX5_isToldByWindow cX5_isToldByWindow 2 (some .boolean) 8 0 0 [.ref o, .int i] (MW g o S) (fun r H H1 => ∃ S1, AP S1 (s_one S n i (fun i => bI (isTB (S.1 0) n i))) r ∧ MW g o S1 H1 ∧ Off o H H1) := by
  refine Ct.of (by decide) (Nat.le_of_ble_eq_true rfl) ?_
  intro p e s m args below meth c X hP ls hl
  have hx := X.1
  have hb := X.2.1
  have hKV := X.2.2.2.2.2.2.2.1.1
  have hL : ∀ q ∈ ([] : List Loc), gLo g ≤ q.base := fun _ h => by cases h
  have hl : lv_has ls 2 [(0, .ref o), (1, .int i)] := hl
  have hW : MW g o S s.heap := hP
  have hO : Off o s.heap s.heap := Off.rfl'
  refine lv_aload_n hx hb dX5_isToldByWindow_0 rfl (lv_at hl 0 rfl) ?_
  refine lv_aload_n hx hb dX5_isToldByWindow_1 rfl (lv_at hl 0 rfl) ?_
  refine lv_iload_n hx hb dX5_isToldByWindow_2 rfl (lv_at hl 1 rfl) ?_
  refine Cp.callV (v := .int (bI (noB n i))) (ct_X5_isNone l g o n S i hN hn) X hL hl vb_X5_isNone q1900 (hW.2.1.recv hKV rfl) rfl rfl (Nat.le_of_ble_eq_true rfl) dX5_isToldByWindow_3 ⟨Nat.le_of_ble_eq_true rfl, Nat.le_of_ble_eq_true rfl⟩ (by omega) (by omega) hW (fun locs hL => ?_)
  refine b_ifeq (tgt := 13) X dX5_isToldByWindow_6 (by decide) (fun c_6 => ?_) (fun c_6 => ?_)
  ·
    refine lv_iconst (v := nI 0) hx hb dX5_isToldByWindow_13 (by decide) ?_
    refine mp_38 X rfl hL hW dX5_isToldByWindow_14 (fun H locs hL hW hO1 => ?_)
    have hO := hO.trans hO1
    have hW := MW.cast (S1 := uS S 15 (nI 0)) hW ⟨rfl, rfl, rfl, rfl, rfl, rfl, rfl, rfl, rfl, rfl, rfl, rfl, rfl, rfl, rfl, rfl, rfl⟩
    refine lv_aload_n hx hb dX5_isToldByWindow_17 rfl (lv_at hl 0 rfl) ?_
    refine mg_38 X rfl hW dX5_isToldByWindow_18 (W.stk (w := (nI 0)) rfl ?_)
    refine n_ifne (tgt := 36) X dX5_isToldByWindow_21 (by decide) (by omega) (fun c_21 => ?_) (fun c_21 => ?_)
    ·
      exact absurd c_21 (by decide)
    ·
      obtain ⟨hic, hil⟩ := noB_nat hn c_6
      refine lv_aload_n hx hb dX5_isToldByWindow_24 rfl (lv_at hl 0 rfl) ?_
      refine lv_iload_n hx hb dX5_isToldByWindow_25 rfl (lv_at hl 1 rfl) ?_
      refine W.stk (w := (nI i.toNatClampNeg)) hic ?_
      refine Cp.callV (v := .int (bI (isTB (S.1 0) n i.toNatClampNeg))) (ct_X5_isTold l g o n i.toNatClampNeg (uS S 15 (nI 0)) hN hn (by omega)) X hL hl vb_X5_isTold q2111 (hW.2.1.recv hKV rfl) rfl rfl (Nat.le_of_ble_eq_true rfl) dX5_isToldByWindow_26 ⟨Nat.le_of_ble_eq_true rfl, Nat.le_of_ble_eq_true rfl⟩ (by omega) (by omega) hW (fun locs hL => ?_)
      refine b_ifeq (tgt := 36) X dX5_isToldByWindow_29 (by decide) (fun c_29 => ?_) (fun c_29 => ?_)
      ·
        refine lv_iconst (v := nI 0) hx hb dX5_isToldByWindow_36 (by decide) ?_
        exact r_iret X hL rfl rfl dX5_isToldByWindow_37 (by omega) (by omega) ⟨uS S 15 (nI 0), AP.mk (t := 0) (v := some (.int (nI 0))) (X := S) (by simp [s_one, x_, q_, vI, bI_T, bI_F, c_6, c_29]) ⟨rfl, rfl, rfl, rfl, rfl, rfl, rfl, rfl⟩ rfl rfl, hW, hO⟩
      ·
        refine lv_iconst (v := nI 1) hx hb dX5_isToldByWindow_32 (by decide) ?_
        refine lv_goto (tgt := 37) hx hb dX5_isToldByWindow_33 (by decide) ?_
        exact r_iret X hL rfl rfl dX5_isToldByWindow_37 (by omega) (by omega) ⟨uS S 15 (nI 0), AP.mk (t := 0) (v := some (.int (nI 1))) (X := S) (by simp [s_one, x_, q_, vI, bI_T, bI_F, c_6, c_29]) ⟨rfl, rfl, rfl, rfl, rfl, rfl, rfl, rfl⟩ rfl rfl, hW, hO⟩
  ·
    refine lv_iconst (v := nI 1) hx hb dX5_isToldByWindow_9 (by decide) ?_
    refine lv_goto (tgt := 14) hx hb dX5_isToldByWindow_10 (by decide) ?_
    refine mp_38 X rfl hL hW dX5_isToldByWindow_14 (fun H locs hL hW hO1 => ?_)
    have hO := hO.trans hO1
    have hW := MW.cast (S1 := uS S 15 (nI 1)) hW ⟨rfl, rfl, rfl, rfl, rfl, rfl, rfl, rfl, rfl, rfl, rfl, rfl, rfl, rfl, rfl, rfl, rfl⟩
    refine lv_aload_n hx hb dX5_isToldByWindow_17 rfl (lv_at hl 0 rfl) ?_
    refine mg_38 X rfl hW dX5_isToldByWindow_18 (W.stk (w := (nI 1)) rfl ?_)
    refine n_ifne (tgt := 36) X dX5_isToldByWindow_21 (by decide) (by omega) (fun c_21 => ?_) (fun c_21 => ?_)
    ·
      refine lv_iconst (v := nI 0) hx hb dX5_isToldByWindow_36 (by decide) ?_
      exact r_iret X hL rfl rfl dX5_isToldByWindow_37 (by omega) (by omega) ⟨uS S 15 (nI 1), AP.mk (t := 1) (v := some (.int (nI 0))) (X := S) (by simp [s_one, x_, q_, vI, bI_T, bI_F, c_6]) ⟨rfl, rfl, rfl, rfl, rfl, rfl, rfl, rfl⟩ rfl rfl, hW, hO⟩
    ·
      exact absurd c_21 (by decide)
theorem vb_X5_isToldByWindow : VB yX5_isToldByWindow cX5_isToldByWindow 2 (some .boolean) 1 := ⟨q2116, q2117, q111, q2118, ⟨by decide, by decide, by decide +kernel⟩⟩

set_option maxRecDepth 100000 in
set_option maxHeartbeats 4000000 in
theorem ct_X5_beatersOf (l : Launch) (g : GT) (o n : Nat) (S : MS) (i : Int32) (hN : S.1 0 160 = nI n) (hn : n ≤ 40) : Ct l g yX5_beatersOf cX5_beatersOf 2 (some .int) 8 0 0 [.ref o, .int i] (MW g o S) (fun r H H1 => ∃ S1, AP S1 (s_one S n i (fun i => nI (cnt (fun j => beatB (S.1 0) j i) n))) r ∧ MW g o S1 H1 ∧ Off o H H1) := by
  refine Ct.of (by decide) (Nat.le_of_ble_eq_true rfl) ?_
  intro p e s m args below meth c X hP ls hl
  have hx := X.1
  have hb := X.2.1
  have hKV := X.2.2.2.2.2.2.2.1.1
  have hL : ∀ q ∈ ([] : List Loc), gLo g ≤ q.base := fun _ h => by cases h
  have hl : lv_has ls 2 [(0, .ref o), (1, .int i)] := hl
  have hW : MW g o S s.heap := hP
  have hO : Off o s.heap s.heap := Off.rfl'
  refine lv_aload_n hx hb dX5_beatersOf_0 rfl (lv_at hl 0 rfl) ?_
  refine lv_iconst (v := nI 0) hx hb dX5_beatersOf_1 (by decide) ?_
  refine mp_38 X rfl hL hW dX5_beatersOf_2 (fun H locs hL hW hO1 => ?_)
  have hO := hO.trans hO1
  have hW := MW.cast (S1 := uS S 15 (nI 0)) hW ⟨rfl, rfl, rfl, rfl, rfl, rfl, rfl, rfl, rfl, rfl, rfl, rfl, rfl, rfl, rfl, rfl, rfl⟩
  refine lv_aload_n hx hb dX5_beatersOf_5 rfl (lv_at hl 0 rfl) ?_
  refine lv_iload_n hx hb dX5_beatersOf_6 rfl (lv_at hl 1 rfl) ?_
  refine Cp.callV (v := .int (bI (noB n i))) (ct_X5_isNone l g o n (uS S 15 (nI 0)) i hN hn) X hL hl vb_X5_isNone q1900 (hW.2.1.recv hKV rfl) rfl rfl (Nat.le_of_ble_eq_true rfl) dX5_beatersOf_7 ⟨Nat.le_of_ble_eq_true rfl, Nat.le_of_ble_eq_true rfl⟩ (by omega) (by omega) hW (fun locs hL => ?_)
  refine b_ifeq (tgt := 21) X dX5_beatersOf_10 (by decide) (fun c_10 => ?_) (fun c_10 => ?_)
  ·
    obtain ⟨hic, hil⟩ := noB_nat hn c_10
    refine lv_aload_n hx hb dX5_beatersOf_21 rfl (lv_at hl 0 rfl) ?_
    refine lv_iload_n hx hb dX5_beatersOf_22 rfl (lv_at hl 1 rfl) ?_
    refine W.stk (w := (nI i.toNatClampNeg)) hic ?_
    refine Cp.callV (v := .int (nI (cnt (fun j => beatB (S.1 0) j i.toNatClampNeg) n))) (ct_X5_beaters l g o n i.toNatClampNeg (uS S 15 (nI 0)) hN hn (by omega)) X hL hl vb_X5_beaters q2095 (hW.2.1.recv hKV rfl) rfl rfl (Nat.le_of_ble_eq_true rfl) dX5_beatersOf_23 ⟨Nat.le_of_ble_eq_true rfl, Nat.le_of_ble_eq_true rfl⟩ (by omega) (by omega) hW (fun locs hL => ?_)
    exact r_iret X hL rfl rfl dX5_beatersOf_26 (by omega) (by omega) ⟨uS S 15 (nI 0), AP.mk (t := 0) (v := some (.int (nI (cnt (fun j => beatB (S.1 0) j i.toNatClampNeg) n)))) (X := S) (by simp [s_one, x_, q_, vI, bI_T, bI_F, c_10]) ⟨rfl, rfl, rfl, rfl, rfl, rfl, rfl, rfl⟩ rfl rfl, hW, hO⟩
  ·
    refine lv_aload_n hx hb dX5_beatersOf_13 rfl (lv_at hl 0 rfl) ?_
    refine lv_iconst (v := nI 1) hx hb dX5_beatersOf_14 (by decide) ?_
    refine Ct.callV (ct_X5_fails l g o (uS S 15 (nI 0)) (nI 1) ) X hL hl vb_X5_fails q1904 (hW.2.1.recv hKV rfl) rfl rfl (Nat.le_of_ble_eq_true rfl) dX5_beatersOf_15 ⟨Nat.le_of_ble_eq_true rfl, Nat.le_of_ble_eq_true rfl⟩ (by omega) (by omega) hW (fun r H1 locs hL hp => ?_)
    obtain ⟨rfl, hW, hO1⟩ := hp
    have hO := hO.trans hO1
    have hW := MW.cast (S1 := uS S 15 (nI 1)) hW ⟨rfl, rfl, rfl, rfl, rfl, rfl, rfl, rfl, rfl, rfl, rfl, rfl, rfl, rfl, rfl, rfl, rfl⟩
    refine lv_goto (tgt := 26) hx hb dX5_beatersOf_18 (by decide) ?_
    exact r_iret X hL rfl rfl dX5_beatersOf_26 (by omega) (by omega) ⟨uS S 15 (nI 1), AP.mk (t := 1) (v := some (.int (nI 0))) (X := S) (by simp [s_one, x_, q_, vI, bI_T, bI_F, c_10]) ⟨rfl, rfl, rfl, rfl, rfl, rfl, rfl, rfl⟩ rfl rfl, hW, hO⟩
theorem vb_X5_beatersOf : VB yX5_beatersOf cX5_beatersOf 2 (some .int) 1 := ⟨q2092, q2093, q111, q2094, ⟨by decide, by decide, by decide +kernel⟩⟩

set_option maxRecDepth 100000 in
set_option maxHeartbeats 4000000 in
theorem ct_X5_beatenBy (l : Launch) (g : GT) (o n : Nat) (S : MS) (i : Int32) (hN : S.1 0 160 = nI n) (hn : n ≤ 40) : Ct l g yX5_beatenBy cX5_beatenBy 2 (some .int) 8 0 0 [.ref o, .int i] (MW g o S) (fun r H H1 => ∃ S1, AP S1 (s_one S n i (fun i => nI (cnt (beatB (S.1 0) i) n))) r ∧ MW g o S1 H1 ∧ Off o H H1) := by
  refine Ct.of (by decide) (Nat.le_of_ble_eq_true rfl) ?_
  intro p e s m args below meth c X hP ls hl
  have hx := X.1
  have hb := X.2.1
  have hKV := X.2.2.2.2.2.2.2.1.1
  have hL : ∀ q ∈ ([] : List Loc), gLo g ≤ q.base := fun _ h => by cases h
  have hl : lv_has ls 2 [(0, .ref o), (1, .int i)] := hl
  have hW : MW g o S s.heap := hP
  have hO : Off o s.heap s.heap := Off.rfl'
  refine lv_aload_n hx hb dX5_beatenBy_0 rfl (lv_at hl 0 rfl) ?_
  refine lv_iconst (v := nI 0) hx hb dX5_beatenBy_1 (by decide) ?_
  refine mp_38 X rfl hL hW dX5_beatenBy_2 (fun H locs hL hW hO1 => ?_)
  have hO := hO.trans hO1
  have hW := MW.cast (S1 := uS S 15 (nI 0)) hW ⟨rfl, rfl, rfl, rfl, rfl, rfl, rfl, rfl, rfl, rfl, rfl, rfl, rfl, rfl, rfl, rfl, rfl⟩
  refine lv_aload_n hx hb dX5_beatenBy_5 rfl (lv_at hl 0 rfl) ?_
  refine lv_iload_n hx hb dX5_beatenBy_6 rfl (lv_at hl 1 rfl) ?_
  refine Cp.callV (v := .int (bI (noB n i))) (ct_X5_isNone l g o n (uS S 15 (nI 0)) i hN hn) X hL hl vb_X5_isNone q1900 (hW.2.1.recv hKV rfl) rfl rfl (Nat.le_of_ble_eq_true rfl) dX5_beatenBy_7 ⟨Nat.le_of_ble_eq_true rfl, Nat.le_of_ble_eq_true rfl⟩ (by omega) (by omega) hW (fun locs hL => ?_)
  refine b_ifeq (tgt := 21) X dX5_beatenBy_10 (by decide) (fun c_10 => ?_) (fun c_10 => ?_)
  ·
    obtain ⟨hic, hil⟩ := noB_nat hn c_10
    refine lv_aload_n hx hb dX5_beatenBy_21 rfl (lv_at hl 0 rfl) ?_
    refine lv_iload_n hx hb dX5_beatenBy_22 rfl (lv_at hl 1 rfl) ?_
    refine W.stk (w := (nI i.toNatClampNeg)) hic ?_
    refine Cp.callV (v := .int (nI (cnt (beatB (S.1 0) i.toNatClampNeg) n))) (ct_X5_beaten l g o n i.toNatClampNeg (uS S 15 (nI 0)) hN hn (by omega)) X hL hl vb_X5_beaten q2103 (hW.2.1.recv hKV rfl) rfl rfl (Nat.le_of_ble_eq_true rfl) dX5_beatenBy_23 ⟨Nat.le_of_ble_eq_true rfl, Nat.le_of_ble_eq_true rfl⟩ (by omega) (by omega) hW (fun locs hL => ?_)
    exact r_iret X hL rfl rfl dX5_beatenBy_26 (by omega) (by omega) ⟨uS S 15 (nI 0), AP.mk (t := 0) (v := some (.int (nI (cnt (beatB (S.1 0) i.toNatClampNeg) n)))) (X := S) (by simp [s_one, x_, q_, vI, bI_T, bI_F, c_10]) ⟨rfl, rfl, rfl, rfl, rfl, rfl, rfl, rfl⟩ rfl rfl, hW, hO⟩
  ·
    refine lv_aload_n hx hb dX5_beatenBy_13 rfl (lv_at hl 0 rfl) ?_
    refine lv_iconst (v := nI 1) hx hb dX5_beatenBy_14 (by decide) ?_
    refine Ct.callV (ct_X5_fails l g o (uS S 15 (nI 0)) (nI 1) ) X hL hl vb_X5_fails q1904 (hW.2.1.recv hKV rfl) rfl rfl (Nat.le_of_ble_eq_true rfl) dX5_beatenBy_15 ⟨Nat.le_of_ble_eq_true rfl, Nat.le_of_ble_eq_true rfl⟩ (by omega) (by omega) hW (fun r H1 locs hL hp => ?_)
    obtain ⟨rfl, hW, hO1⟩ := hp
    have hO := hO.trans hO1
    have hW := MW.cast (S1 := uS S 15 (nI 1)) hW ⟨rfl, rfl, rfl, rfl, rfl, rfl, rfl, rfl, rfl, rfl, rfl, rfl, rfl, rfl, rfl, rfl, rfl⟩
    refine lv_goto (tgt := 26) hx hb dX5_beatenBy_18 (by decide) ?_
    exact r_iret X hL rfl rfl dX5_beatenBy_26 (by omega) (by omega) ⟨uS S 15 (nI 1), AP.mk (t := 1) (v := some (.int (nI 0))) (X := S) (by simp [s_one, x_, q_, vI, bI_T, bI_F, c_10]) ⟨rfl, rfl, rfl, rfl, rfl, rfl, rfl, rfl⟩ rfl rfl, hW, hO⟩
theorem vb_X5_beatenBy : VB yX5_beatenBy cX5_beatenBy 2 (some .int) 1 := ⟨q2100, q2101, q111, q2102, ⟨by decide, by decide, by decide +kernel⟩⟩

set_option maxRecDepth 100000 in
set_option maxHeartbeats 4000000 in
theorem ct_X5_scoreOf (l : Launch) (g : GT) (o n : Nat) (S : MS) (i : Int32) (hN : S.1 0 160 = nI n) (hn : n ≤ 40) : Ct l g yX5_scoreOf cX5_scoreOf 2 (some .int) 8 0 0 [.ref o, .int i] (MW g o S) (fun r H H1 => ∃ S1, AP S1 (s_one S n i (fun i => scoI (S.1 0) i)) r ∧ MW g o S1 H1 ∧ Off o H H1) := by
  refine Ct.of (by decide) (Nat.le_of_ble_eq_true rfl) ?_
  intro p e s m args below meth c X hP ls hl
  have hx := X.1
  have hb := X.2.1
  have hKV := X.2.2.2.2.2.2.2.1.1
  have hL : ∀ q ∈ ([] : List Loc), gLo g ≤ q.base := fun _ h => by cases h
  have hl : lv_has ls 2 [(0, .ref o), (1, .int i)] := hl
  have hW : MW g o S s.heap := hP
  have hO : Off o s.heap s.heap := Off.rfl'
  refine lv_aload_n hx hb dX5_scoreOf_0 rfl (lv_at hl 0 rfl) ?_
  refine lv_iconst (v := nI 0) hx hb dX5_scoreOf_1 (by decide) ?_
  refine mp_38 X rfl hL hW dX5_scoreOf_2 (fun H locs hL hW hO1 => ?_)
  have hO := hO.trans hO1
  have hW := MW.cast (S1 := uS S 15 (nI 0)) hW ⟨rfl, rfl, rfl, rfl, rfl, rfl, rfl, rfl, rfl, rfl, rfl, rfl, rfl, rfl, rfl, rfl, rfl⟩
  refine lv_aload_n hx hb dX5_scoreOf_5 rfl (lv_at hl 0 rfl) ?_
  refine lv_iload_n hx hb dX5_scoreOf_6 rfl (lv_at hl 1 rfl) ?_
  refine Cp.callV (v := .int (bI (noB n i))) (ct_X5_isNone l g o n (uS S 15 (nI 0)) i hN hn) X hL hl vb_X5_isNone q1900 (hW.2.1.recv hKV rfl) rfl rfl (Nat.le_of_ble_eq_true rfl) dX5_scoreOf_7 ⟨Nat.le_of_ble_eq_true rfl, Nat.le_of_ble_eq_true rfl⟩ (by omega) (by omega) hW (fun locs hL => ?_)
  refine b_ifeq (tgt := 21) X dX5_scoreOf_10 (by decide) (fun c_10 => ?_) (fun c_10 => ?_)
  ·
    obtain ⟨hic, hil⟩ := noB_nat hn c_10
    refine lv_aload_n hx hb dX5_scoreOf_21 rfl (lv_at hl 0 rfl) ?_
    refine lv_iload_n hx hb dX5_scoreOf_22 rfl (lv_at hl 1 rfl) ?_
    refine W.stk (w := (nI i.toNatClampNeg)) hic ?_
    refine Cp.callV (v := .int (scoI (S.1 0) i.toNatClampNeg)) (ct_X5_score l g o i.toNatClampNeg (uS S 15 (nI 0)) (by omega)) X hL hl vb_X5_score q2232 (hW.2.1.recv hKV rfl) rfl rfl (Nat.le_of_ble_eq_true rfl) dX5_scoreOf_23 ⟨Nat.le_of_ble_eq_true rfl, Nat.le_of_ble_eq_true rfl⟩ (by omega) (by omega) hW (fun locs hL => ?_)
    exact r_iret X hL rfl rfl dX5_scoreOf_26 (by omega) (by omega) ⟨uS S 15 (nI 0), AP.mk (t := 0) (v := some (.int (scoI (S.1 0) i.toNatClampNeg))) (X := S) (by simp [s_one, x_, q_, vI, bI_T, bI_F, c_10]) ⟨rfl, rfl, rfl, rfl, rfl, rfl, rfl, rfl⟩ rfl rfl, hW, hO⟩
  ·
    refine lv_aload_n hx hb dX5_scoreOf_13 rfl (lv_at hl 0 rfl) ?_
    refine lv_iconst (v := nI 1) hx hb dX5_scoreOf_14 (by decide) ?_
    refine Ct.callV (ct_X5_fails l g o (uS S 15 (nI 0)) (nI 1) ) X hL hl vb_X5_fails q1904 (hW.2.1.recv hKV rfl) rfl rfl (Nat.le_of_ble_eq_true rfl) dX5_scoreOf_15 ⟨Nat.le_of_ble_eq_true rfl, Nat.le_of_ble_eq_true rfl⟩ (by omega) (by omega) hW (fun r H1 locs hL hp => ?_)
    obtain ⟨rfl, hW, hO1⟩ := hp
    have hO := hO.trans hO1
    have hW := MW.cast (S1 := uS S 15 (nI 1)) hW ⟨rfl, rfl, rfl, rfl, rfl, rfl, rfl, rfl, rfl, rfl, rfl, rfl, rfl, rfl, rfl, rfl, rfl⟩
    refine lv_goto (tgt := 26) hx hb dX5_scoreOf_18 (by decide) ?_
    exact r_iret X hL rfl rfl dX5_scoreOf_26 (by omega) (by omega) ⟨uS S 15 (nI 1), AP.mk (t := 1) (v := some (.int (nI 0))) (X := S) (by simp [s_one, x_, q_, vI, bI_T, bI_F, c_10]) ⟨rfl, rfl, rfl, rfl, rfl, rfl, rfl, rfl⟩ rfl rfl, hW, hO⟩
theorem vb_X5_scoreOf : VB yX5_scoreOf cX5_scoreOf 2 (some .int) 1 := ⟨q2229, q2230, q111, q2231, ⟨by decide, by decide, by decide +kernel⟩⟩

set_option maxRecDepth 100000 in
set_option maxHeartbeats 4000000 in
theorem ct_X5_counting (l : Launch) (g : GT) (o n : Nat) (S : MS) (hN : S.1 0 160 = nI n) (hn : n ≤ 40) : Ct l g yX5_counting cX5_counting 1 (some .int) 5 0 0 [.ref o] (MW g o S) (fun r H H1 => ∃ S1, AP S1 (q_ S (nI (cnt (cB (S.1 0)) n))) r ∧ MW g o S1 H1 ∧ Off o H H1) := by
  refine Ct.of (by decide) (Nat.le_of_ble_eq_true rfl) ?_
  intro p e s m args below meth c X hP ls hl
  have hx := X.1
  have hb := X.2.1
  have hKV := X.2.2.2.2.2.2.2.1.1
  have hL : ∀ q ∈ ([] : List Loc), gLo g ≤ q.base := fun _ h => by cases h
  have hl : lv_has ls 1 [(0, .ref o)] := hl
  have hW : MW g o S s.heap := hP
  have hO : Off o s.heap s.heap := Off.rfl'
  refine lv_aload_n hx hb dX5_counting_0 rfl (lv_at hl 0 rfl) ?_
  refine lv_iconst (v := nI 0) hx hb dX5_counting_1 (by decide) ?_
  refine mp_38 X rfl hL hW dX5_counting_2 (fun H locs hL hW hO1 => ?_)
  have hO := hO.trans hO1
  have hW := MW.cast (S1 := uS S 15 (nI 0)) hW ⟨rfl, rfl, rfl, rfl, rfl, rfl, rfl, rfl, rfl, rfl, rfl, rfl, rfl, rfl, rfl, rfl, rfl⟩
  refine lv_aload_n hx hb dX5_counting_5 rfl (lv_at hl 0 rfl) ?_
  refine Cp.callV (v := .int (nI (cnt (cB (S.1 0)) n))) (ct_X5_countingOnes l g o n (uS S 15 (nI 0)) hN hn) X hL hl vb_X5_countingOnes q1963 (hW.2.1.recv hKV rfl) rfl rfl (Nat.le_of_ble_eq_true rfl) dX5_counting_6 ⟨Nat.le_of_ble_eq_true rfl, Nat.le_of_ble_eq_true rfl⟩ (by omega) (by omega) hW (fun locs hL => ?_)
  exact r_iret X hL rfl rfl dX5_counting_9 (by omega) (by omega) ⟨uS S 15 (nI 0), AP.mk (t := 0) (v := some (.int (nI (cnt (cB (S.1 0)) n)))) (X := S) rfl ⟨rfl, rfl, rfl, rfl, rfl, rfl, rfl, rfl⟩ rfl rfl, hW, hO⟩
theorem vb_X5_counting : VB yX5_counting cX5_counting 1 (some .int) 0 := ⟨q2076, q2077, q111, q2078, ⟨by decide, by decide, by decide +kernel⟩⟩

set_option maxRecDepth 100000 in
set_option maxHeartbeats 4000000 in
theorem ct_X5_beats (l : Launch) (g : GT) (o n : Nat) (S : MS) (i j : Int32) (hN : S.1 0 160 = nI n) (hn : n ≤ 40) : Ct l g yX5_beats cX5_beats 3 (some .boolean) 7 0 0 [.ref o, .int i, .int j] (MW g o S) (fun r H H1 => ∃ S1, AP S1 (s_two S n i j (fun i j => bI (beatB (S.1 0) i j))) r ∧ MW g o S1 H1 ∧ Off o H H1) := by
  refine Ct.of (by decide) (Nat.le_of_ble_eq_true rfl) ?_
  intro p e s m args below meth c X hP ls hl
  have hx := X.1
  have hb := X.2.1
  have hKV := X.2.2.2.2.2.2.2.1.1
  have hL : ∀ q ∈ ([] : List Loc), gLo g ≤ q.base := fun _ h => by cases h
  have hl : lv_has ls 3 [(0, .ref o), (1, .int i), (2, .int j)] := hl
  have hW : MW g o S s.heap := hP
  have hO : Off o s.heap s.heap := Off.rfl'
  refine lv_aload_n hx hb dX5_beats_0 rfl (lv_at hl 0 rfl) ?_
  refine lv_aload_n hx hb dX5_beats_1 rfl (lv_at hl 0 rfl) ?_
  refine lv_iload_n hx hb dX5_beats_2 rfl (lv_at hl 1 rfl) ?_
  refine Cp.callV (v := .int (bI (noB n i))) (ct_X5_isNone l g o n S i hN hn) X hL hl vb_X5_isNone q1900 (hW.2.1.recv hKV rfl) rfl rfl (Nat.le_of_ble_eq_true rfl) dX5_beats_3 ⟨Nat.le_of_ble_eq_true rfl, Nat.le_of_ble_eq_true rfl⟩ (by omega) (by omega) hW (fun locs hL => ?_)
  refine b_ifne (tgt := 17) X dX5_beats_6 (by decide) (fun c_6 => ?_) (fun c_6 => ?_)
  ·
    refine lv_iconst (v := nI 1) hx hb dX5_beats_17 (by decide) ?_
    refine lv_goto (tgt := 22) hx hb dX5_beats_18 (by decide) ?_
    refine mp_38 X rfl hL hW dX5_beats_22 (fun H locs hL hW hO1 => ?_)
    have hO := hO.trans hO1
    have hW := MW.cast (S1 := uS S 15 (nI 1)) hW ⟨rfl, rfl, rfl, rfl, rfl, rfl, rfl, rfl, rfl, rfl, rfl, rfl, rfl, rfl, rfl, rfl, rfl⟩
    refine lv_aload_n hx hb dX5_beats_25 rfl (lv_at hl 0 rfl) ?_
    refine mg_38 X rfl hW dX5_beats_26 (W.stk (w := (nI 1)) rfl ?_)
    refine n_ifne (tgt := 45) X dX5_beats_29 (by decide) (by omega) (fun c_29 => ?_) (fun c_29 => ?_)
    ·
      refine lv_iconst (v := nI 0) hx hb dX5_beats_45 (by decide) ?_
      exact r_iret X hL rfl rfl dX5_beats_46 (by omega) (by omega) ⟨uS S 15 (nI 1), AP.mk (t := 1) (v := some (.int (nI 0))) (X := S) (by simp [s_two, x_, q_, vI, bI_T, bI_F, c_6]) ⟨rfl, rfl, rfl, rfl, rfl, rfl, rfl, rfl⟩ rfl rfl, hW, hO⟩
    ·
      exact absurd c_29 (by decide)
  ·
    refine lv_aload_n hx hb dX5_beats_9 rfl (lv_at hl 0 rfl) ?_
    refine lv_iload_n hx hb dX5_beats_10 rfl (lv_at hl 2 rfl) ?_
    refine Cp.callV (v := .int (bI (noB n j))) (ct_X5_isNone l g o n S j hN hn) X hL hl vb_X5_isNone q1900 (hW.2.1.recv hKV rfl) rfl rfl (Nat.le_of_ble_eq_true rfl) dX5_beats_11 ⟨Nat.le_of_ble_eq_true rfl, Nat.le_of_ble_eq_true rfl⟩ (by omega) (by omega) hW (fun locs hL => ?_)
    refine b_ifeq (tgt := 21) X dX5_beats_14 (by decide) (fun c_14 => ?_) (fun c_14 => ?_)
    ·
      refine lv_iconst (v := nI 0) hx hb dX5_beats_21 (by decide) ?_
      refine mp_38 X rfl hL hW dX5_beats_22 (fun H locs hL hW hO1 => ?_)
      have hO := hO.trans hO1
      have hW := MW.cast (S1 := uS S 15 (nI 0)) hW ⟨rfl, rfl, rfl, rfl, rfl, rfl, rfl, rfl, rfl, rfl, rfl, rfl, rfl, rfl, rfl, rfl, rfl⟩
      refine lv_aload_n hx hb dX5_beats_25 rfl (lv_at hl 0 rfl) ?_
      refine mg_38 X rfl hW dX5_beats_26 (W.stk (w := (nI 0)) rfl ?_)
      refine n_ifne (tgt := 45) X dX5_beats_29 (by decide) (by omega) (fun c_29 => ?_) (fun c_29 => ?_)
      ·
        exact absurd c_29 (by decide)
      ·
        obtain ⟨hic, hil⟩ := noB_nat hn c_6
        obtain ⟨hjc, hjl⟩ := noB_nat hn c_14
        refine lv_aload_n hx hb dX5_beats_32 rfl (lv_at hl 0 rfl) ?_
        refine lv_iload_n hx hb dX5_beats_33 rfl (lv_at hl 1 rfl) ?_
        refine W.stk (w := (nI i.toNatClampNeg)) hic ?_
        refine lv_iload_n hx hb dX5_beats_34 rfl (lv_at hl 2 rfl) ?_
        refine W.stk (w := (nI j.toNatClampNeg)) hjc ?_
        refine Cp.callV (v := .int (bI (beatB (S.1 0) i.toNatClampNeg j.toNatClampNeg))) (ct_X5_beat l g o i.toNatClampNeg j.toNatClampNeg (uS S 15 (nI 0)) (by omega) (by omega)) X hL hl vb_X5_beat q2083 (hW.2.1.recv hKV rfl) rfl rfl (Nat.le_of_ble_eq_true rfl) dX5_beats_35 ⟨Nat.le_of_ble_eq_true rfl, Nat.le_of_ble_eq_true rfl⟩ (by omega) (by omega) hW (fun locs hL => ?_)
        refine b_ifeq (tgt := 45) X dX5_beats_38 (by decide) (fun c_38 => ?_) (fun c_38 => ?_)
        ·
          refine lv_iconst (v := nI 0) hx hb dX5_beats_45 (by decide) ?_
          exact r_iret X hL rfl rfl dX5_beats_46 (by omega) (by omega) ⟨uS S 15 (nI 0), AP.mk (t := 0) (v := some (.int (nI 0))) (X := S) (by simp [s_two, x_, q_, vI, bI_T, bI_F, c_6, c_14, c_38]) ⟨rfl, rfl, rfl, rfl, rfl, rfl, rfl, rfl⟩ rfl rfl, hW, hO⟩
        ·
          refine lv_iconst (v := nI 1) hx hb dX5_beats_41 (by decide) ?_
          refine lv_goto (tgt := 46) hx hb dX5_beats_42 (by decide) ?_
          exact r_iret X hL rfl rfl dX5_beats_46 (by omega) (by omega) ⟨uS S 15 (nI 0), AP.mk (t := 0) (v := some (.int (nI 1))) (X := S) (by simp [s_two, x_, q_, vI, bI_T, bI_F, c_6, c_14, c_38]) ⟨rfl, rfl, rfl, rfl, rfl, rfl, rfl, rfl⟩ rfl rfl, hW, hO⟩
    ·
      refine lv_iconst (v := nI 1) hx hb dX5_beats_17 (by decide) ?_
      refine lv_goto (tgt := 22) hx hb dX5_beats_18 (by decide) ?_
      refine mp_38 X rfl hL hW dX5_beats_22 (fun H locs hL hW hO1 => ?_)
      have hO := hO.trans hO1
      have hW := MW.cast (S1 := uS S 15 (nI 1)) hW ⟨rfl, rfl, rfl, rfl, rfl, rfl, rfl, rfl, rfl, rfl, rfl, rfl, rfl, rfl, rfl, rfl, rfl⟩
      refine lv_aload_n hx hb dX5_beats_25 rfl (lv_at hl 0 rfl) ?_
      refine mg_38 X rfl hW dX5_beats_26 (W.stk (w := (nI 1)) rfl ?_)
      refine n_ifne (tgt := 45) X dX5_beats_29 (by decide) (by omega) (fun c_29 => ?_) (fun c_29 => ?_)
      ·
        refine lv_iconst (v := nI 0) hx hb dX5_beats_45 (by decide) ?_
        exact r_iret X hL rfl rfl dX5_beats_46 (by omega) (by omega) ⟨uS S 15 (nI 1), AP.mk (t := 1) (v := some (.int (nI 0))) (X := S) (by simp [s_two, x_, q_, vI, bI_T, bI_F, c_6, c_14]) ⟨rfl, rfl, rfl, rfl, rfl, rfl, rfl, rfl⟩ rfl rfl, hW, hO⟩
      ·
        exact absurd c_29 (by decide)
theorem vb_X5_beats : VB yX5_beats cX5_beats 3 (some .boolean) 2 := ⟨q2080, q2081, q111, q2082, ⟨by decide, by decide, by decide +kernel⟩⟩

set_option maxRecDepth 100000 in
set_option maxHeartbeats 4000000 in
theorem ct_X5_betterOn (l : Launch) (g : GT) (o n : Nat) (S : MS) (i j : Int32) (hN : S.1 0 160 = nI n) (hn : n ≤ 40) : Ct l g yX5_betterOn cX5_betterOn 3 (some .int) 7 0 0 [.ref o, .int i, .int j] (MW g o S) (fun r H H1 => ∃ S1, AP S1 (s_two S n i j (fun i j => nI (betN (mw (S.1 0)) (mv (S.1 0) i) (mv (S.1 0) j) (hasB (matI (mw (S.1 0))))))) r ∧ MW g o S1 H1 ∧ Off o H H1) := by
  refine Ct.of (by decide) (Nat.le_of_ble_eq_true rfl) ?_
  intro p e s m args below meth c X hP ls hl
  have hx := X.1
  have hb := X.2.1
  have hKV := X.2.2.2.2.2.2.2.1.1
  have hL : ∀ q ∈ ([] : List Loc), gLo g ≤ q.base := fun _ h => by cases h
  have hl : lv_has ls 3 [(0, .ref o), (1, .int i), (2, .int j)] := hl
  have hW : MW g o S s.heap := hP
  have hO : Off o s.heap s.heap := Off.rfl'
  refine lv_aload_n hx hb dX5_betterOn_0 rfl (lv_at hl 0 rfl) ?_
  refine lv_iconst (v := nI 0) hx hb dX5_betterOn_1 (by decide) ?_
  refine mp_38 X rfl hL hW dX5_betterOn_2 (fun H locs hL hW hO1 => ?_)
  have hO := hO.trans hO1
  have hW := MW.cast (S1 := uS S 15 (nI 0)) hW ⟨rfl, rfl, rfl, rfl, rfl, rfl, rfl, rfl, rfl, rfl, rfl, rfl, rfl, rfl, rfl, rfl, rfl⟩
  refine lv_aload_n hx hb dX5_betterOn_5 rfl (lv_at hl 0 rfl) ?_
  refine lv_iload_n hx hb dX5_betterOn_6 rfl (lv_at hl 1 rfl) ?_
  refine Cp.callV (v := .int (bI (noB n i))) (ct_X5_isNone l g o n (uS S 15 (nI 0)) i hN hn) X hL hl vb_X5_isNone q1900 (hW.2.1.recv hKV rfl) rfl rfl (Nat.le_of_ble_eq_true rfl) dX5_betterOn_7 ⟨Nat.le_of_ble_eq_true rfl, Nat.le_of_ble_eq_true rfl⟩ (by omega) (by omega) hW (fun locs hL => ?_)
  refine b_ifne (tgt := 21) X dX5_betterOn_10 (by decide) (fun c_10 => ?_) (fun c_10 => ?_)
  ·
    refine lv_aload_n hx hb dX5_betterOn_21 rfl (lv_at hl 0 rfl) ?_
    refine lv_iconst (v := nI 1) hx hb dX5_betterOn_22 (by decide) ?_
    refine Ct.callV (ct_X5_fails l g o (uS S 15 (nI 0)) (nI 1) ) X hL hl vb_X5_fails q1904 (hW.2.1.recv hKV rfl) rfl rfl (Nat.le_of_ble_eq_true rfl) dX5_betterOn_23 ⟨Nat.le_of_ble_eq_true rfl, Nat.le_of_ble_eq_true rfl⟩ (by omega) (by omega) hW (fun r H1 locs hL hp => ?_)
    obtain ⟨rfl, hW, hO1⟩ := hp
    have hO := hO.trans hO1
    have hW := MW.cast (S1 := uS S 15 (nI 1)) hW ⟨rfl, rfl, rfl, rfl, rfl, rfl, rfl, rfl, rfl, rfl, rfl, rfl, rfl, rfl, rfl, rfl, rfl⟩
    refine lv_goto (tgt := 39) hx hb dX5_betterOn_26 (by decide) ?_
    exact r_iret X hL rfl rfl dX5_betterOn_39 (by omega) (by omega) ⟨uS S 15 (nI 1), AP.mk (t := 1) (v := some (.int (nI 0))) (X := S) (by simp [s_two, x_, q_, vI, bI_T, bI_F, c_10]) ⟨rfl, rfl, rfl, rfl, rfl, rfl, rfl, rfl⟩ rfl rfl, hW, hO⟩
  ·
    refine lv_aload_n hx hb dX5_betterOn_13 rfl (lv_at hl 0 rfl) ?_
    refine lv_iload_n hx hb dX5_betterOn_14 rfl (lv_at hl 2 rfl) ?_
    refine Cp.callV (v := .int (bI (noB n j))) (ct_X5_isNone l g o n (uS S 15 (nI 0)) j hN hn) X hL hl vb_X5_isNone q1900 (hW.2.1.recv hKV rfl) rfl rfl (Nat.le_of_ble_eq_true rfl) dX5_betterOn_15 ⟨Nat.le_of_ble_eq_true rfl, Nat.le_of_ble_eq_true rfl⟩ (by omega) (by omega) hW (fun locs hL => ?_)
    refine b_ifeq (tgt := 29) X dX5_betterOn_18 (by decide) (fun c_18 => ?_) (fun c_18 => ?_)
    ·
      obtain ⟨hic, hil⟩ := noB_nat hn c_10
      obtain ⟨hjc, hjl⟩ := noB_nat hn c_18
      refine lv_aload_n hx hb dX5_betterOn_29 rfl (lv_at hl 0 rfl) ?_
      refine lv_iload_n hx hb dX5_betterOn_30 rfl (lv_at hl 1 rfl) ?_
      refine W.stk (w := (nI i.toNatClampNeg)) hic ?_
      refine lv_iload_n hx hb dX5_betterOn_31 rfl (lv_at hl 2 rfl) ?_
      refine W.stk (w := (nI j.toNatClampNeg)) hjc ?_
      refine lv_aload_n hx hb dX5_betterOn_32 rfl (lv_at hl 0 rfl) ?_
      refine Cp.callV (v := .int (matI (mw (S.1 0)))) (ct_X5_mattering l g o (uS S 15 (nI 0)) ) X hL hl vb_X5_mattering q1927 (hW.2.1.recv hKV rfl) rfl rfl (Nat.le_of_ble_eq_true rfl) dX5_betterOn_33 ⟨Nat.le_of_ble_eq_true rfl, Nat.le_of_ble_eq_true rfl⟩ (by omega) (by omega) hW (fun locs hL => ?_)
      refine Cp.callV (v := .int (nI (betN (mw (S.1 0)) (mv (S.1 0) i.toNatClampNeg) (mv (S.1 0) j.toNatClampNeg) (hasB (matI (mw (S.1 0))))))) (ct_X5_better l g o i.toNatClampNeg j.toNatClampNeg (uS S 15 (nI 0)) (matI (mw (S.1 0))) (by omega) (by omega)) X hL hl vb_X5_better q1947 (hW.2.1.recv hKV rfl) rfl rfl (Nat.le_of_ble_eq_true rfl) dX5_betterOn_36 ⟨Nat.le_of_ble_eq_true rfl, Nat.le_of_ble_eq_true rfl⟩ (by omega) (by omega) hW (fun locs hL => ?_)
      exact r_iret X hL rfl rfl dX5_betterOn_39 (by omega) (by omega) ⟨uS S 15 (nI 0), AP.mk (t := 0) (v := some (.int (nI (betN (mw (S.1 0)) (mv (S.1 0) i.toNatClampNeg) (mv (S.1 0) j.toNatClampNeg) (hasB (matI (mw (S.1 0)))))))) (X := S) (by simp [s_two, x_, q_, vI, bI_T, bI_F, c_10, c_18]) ⟨rfl, rfl, rfl, rfl, rfl, rfl, rfl, rfl⟩ rfl rfl, hW, hO⟩
    ·
      refine lv_aload_n hx hb dX5_betterOn_21 rfl (lv_at hl 0 rfl) ?_
      refine lv_iconst (v := nI 1) hx hb dX5_betterOn_22 (by decide) ?_
      refine Ct.callV (ct_X5_fails l g o (uS S 15 (nI 0)) (nI 1) ) X hL hl vb_X5_fails q1904 (hW.2.1.recv hKV rfl) rfl rfl (Nat.le_of_ble_eq_true rfl) dX5_betterOn_23 ⟨Nat.le_of_ble_eq_true rfl, Nat.le_of_ble_eq_true rfl⟩ (by omega) (by omega) hW (fun r H1 locs hL hp => ?_)
      obtain ⟨rfl, hW, hO1⟩ := hp
      have hO := hO.trans hO1
      have hW := MW.cast (S1 := uS S 15 (nI 1)) hW ⟨rfl, rfl, rfl, rfl, rfl, rfl, rfl, rfl, rfl, rfl, rfl, rfl, rfl, rfl, rfl, rfl, rfl⟩
      refine lv_goto (tgt := 39) hx hb dX5_betterOn_26 (by decide) ?_
      exact r_iret X hL rfl rfl dX5_betterOn_39 (by omega) (by omega) ⟨uS S 15 (nI 1), AP.mk (t := 1) (v := some (.int (nI 0))) (X := S) (by simp [s_two, x_, q_, vI, bI_T, bI_F, c_10, c_18]) ⟨rfl, rfl, rfl, rfl, rfl, rfl, rfl, rfl⟩ rfl rfl, hW, hO⟩
theorem vb_X5_betterOn : VB yX5_betterOn cX5_betterOn 3 (some .int) 2 := ⟨q2088, q2089, q111, q2090, ⟨by decide, by decide, by decide +kernel⟩⟩
