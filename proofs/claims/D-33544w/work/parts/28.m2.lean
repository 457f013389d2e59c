/-! the model's walks, second part -/
theorem v_b {a b : Bool} (h : a = b) : some (Value.int (bI a)) = some (Value.int (bI b)) := by rw [h]
theorem andB_f {a : Bool} {p : Nat → Bool} {k n : Nat} (h : (a && allB p k) = false) (hk : k ≤ n) : (a && allB p n) = false := by
  cases a with
  | false => rfl
  | true =>
    have h2 : allB p k = false := by simpa using h
    have h1 : allB p n ≠ true := fun q => by
      have := allB_iff.mp q
      rw [allB_iff.mpr (fun j hj => this j (Nat.lt_of_lt_of_le hj hk))] at h2
      cases h2
    simpa using h1
def shP (f : Nat → Int32) (k : Nat) : Nat → Int32 := fun j => if j < k then f (179 + j) else f j
def putP (f r : Nat → Int32) (b k : Nat) : Nat → Int32 := fun j => if b ≤ j ∧ j < b + k then r (j - b) else f j
def recN (st : Nat) : Nat := if st = 6 then 5 else st
def recP (f r : Nat → Int32) (st : Nat) : Nat → Int32 := putP (if st = 6 then shP f 895 else f) r (179 * recN st) 179
theorem shP_0 (f : Nat → Int32) : shP f 0 = f := by funext j; simp [shP]
theorem shP_s (f : Nat → Int32) (k : Nat) : upd (shP f k) k ((shP f k) (179 + k)) = shP f (k + 1) := by
  funext j
  by_cases q : j = k
  · subst q; simp [upd, shP]; intro h; omega
  · have : (j < k + 1) = (j < k) := by simp; omega
    simp [upd, shP, q, this]
theorem putP_0 (f r : Nat → Int32) (b : Nat) : putP f r b 0 = f := by funext j; simp only [putP]; rw [if_neg (by omega)]
theorem putP_s (f r : Nat → Int32) (b k : Nat) : upd (putP f r b k) (b + k) (r k) = putP f r b (k + 1) := by
  funext j
  by_cases q : j = b + k
  · subst q; simp [upd, putP]
  · have : (b ≤ j ∧ j < b + (k + 1)) = (b ≤ j ∧ j < b + k) := by simp; omega
    simp only [upd, putP, q, this, if_false]
def remR (r : Nat → Int32) (i k : Nat) : Nat → Int32 := fun j => if 4 * i ≤ j ∧ j < k then r (j + 4) else r j
theorem remR_0 (r : Nat → Int32) (i : Nat) : remR r i (4 * i) = r := by funext j; simp only [remR]; rw [if_neg (by omega)]
theorem remR_s (r : Nat → Int32) {i k : Nat} (h : 4 * i ≤ k) {v : Int32} (hv : v = (remR r i k) (k + 4)) : upd (remR r i k) k v = remR r i (k + 1) := by
  funext j
  have hv : v = r (k + 4) := by rw [hv]; simp only [remR]; rw [if_neg (by omega)]
  subst hv
  by_cases q : j = k
  · subst q; simp only [upd, remR, if_true]; rw [if_pos (by omega)]
  · have : (4 * i ≤ j ∧ j < k + 1) = (4 * i ≤ j ∧ j < k) := by simp; omega
    simp only [upd, remR, q, this, if_false]
theorem remR_l (r : Nat → Int32) {i k j : Nat} (h : k ≤ j) : remR r i k j = r j := by simp only [remR]; rw [if_neg (by omega)]
def delR (r : Nat → Int32) (n i : Nat) : Nat → Int32 := upd (upd (remR r i (4 * n - 4)) 160 (nI (n - 1))) 178 (r 178 + nI 1)
def addR (r : Nat → Int32) (n : Nat) (a b c d : Int32) : Nat → Int32 := upd (upd (upd (upd (upd (upd r (4 * n) a) (4 * n + 1) b) (4 * n + 2) c) (4 * n + 3) d) 160 (nI (n + 1))) 177 (r 177 + nI 1)
def noVs (a b c d : Int32) : Bool := (!inB a (nI 0) (nI 99)) || (!inB b (nI 0) (nI 99)) || (!inB c (nI 0) (nI 99)) || (!inB d (nI 0) (nI 99))
theorem tellB_s (r : Nat → Int32) (N : Nat) (P : Nat → Bool) (k : Nat) {b : Bool} (h : b = (cB r k && allB (fun j => !cB r j || !eB r P j k) N)) : b = tellB r N P k := h

set_option maxRecDepth 100000 in
set_option maxHeartbeats 4000000 in
theorem ct_X5_fails (l : Launch) (g : GT) (o : Nat) (S : MS) (v : Int32)  : Ct l g yX5_fails cX5_fails 2 (some .int) 1 0 0 [.ref o, .int v] (MW g o S) (fun r H H1 => r = some (.int (nI 0)) ∧ MW g o (uS S 15 v) H1 ∧ Off o H H1) := by
  refine Ct.of (by decide) (Nat.le_of_ble_eq_true rfl) ?_
  intro p e s m args below meth c X hP ls hl
  have hx := X.1
  have hb := X.2.1
  have hKV := X.2.2.2.2.2.2.2.1.1
  have hL : ∀ q ∈ ([] : List Loc), gLo g ≤ q.base := fun _ h => by cases h
  have hl : lv_has ls 2 [(0, .ref o), (1, .int v)] := hl
  have hW : MW g o S s.heap := hP
  have hO : Off o s.heap s.heap := Off.rfl'
  refine lv_aload_n hx hb dX5_fails_0 rfl (lv_at hl 0 rfl) ?_
  refine lv_iload_n hx hb dX5_fails_1 rfl (lv_at hl 1 rfl) ?_
  refine mp_38 X rfl hL hW dX5_fails_2 (fun H locs hL hW hO1 => ?_)
  have hO := hO.trans hO1
  have hW := MW.cast (S1 := uS S 15 v) hW ⟨rfl, rfl, rfl, rfl, rfl, rfl, rfl, rfl, rfl, rfl, rfl, rfl, rfl, rfl, rfl, rfl, rfl⟩
  refine lv_iconst (v := nI 0) hx hb dX5_fails_5 (by decide) ?_
  exact r_iret X hL rfl rfl dX5_fails_6 (by omega) (by omega) ⟨rfl, hW, hO⟩
theorem vb_X5_fails : VB yX5_fails cX5_fails 2 (some .int) 1 := ⟨q1906, qs56, q111, q1907, ⟨by decide, by decide, by decide +kernel⟩⟩

set_option maxRecDepth 100000 in
set_option maxHeartbeats 4000000 in
theorem ct_X5_thrown (l : Launch) (g : GT) (o : Nat) (S : MS)  : Ct l g yX5_thrown cX5_thrown 1 (some .int) 1 0 0 [.ref o] (MW g o S) (fun r H H1 => r = some (.int (S.2.1 15)) ∧ H1 = H) := by
  refine Ct.of (by decide) (Nat.le_of_ble_eq_true rfl) ?_
  intro p e s m args below meth c X hP ls hl
  have hx := X.1
  have hb := X.2.1
  have hKV := X.2.2.2.2.2.2.2.1.1
  have hL : ∀ q ∈ ([] : List Loc), gLo g ≤ q.base := fun _ h => by cases h
  have hl : lv_has ls 1 [(0, .ref o)] := hl
  have hW : MW g o S s.heap := hP
  have hO : Off o s.heap s.heap := Off.rfl'
  refine lv_aload_n hx hb dX5_thrown_0 rfl (lv_at hl 0 rfl) ?_
  refine mg_38 X rfl hW dX5_thrown_1 (W.stk (w := (S.2.1 15)) rfl ?_)
  exact r_iret X hL rfl rfl dX5_thrown_4 (by omega) (by omega) ⟨rfl, rfl⟩
theorem vb_X5_thrown : VB yX5_thrown cX5_thrown 1 (some .int) 0 := ⟨q1872, q1873, q111, q1874, ⟨by decide, by decide, by decide +kernel⟩⟩

set_option maxRecDepth 100000 in
set_option maxHeartbeats 4000000 in
theorem ct_X5_areNoValues (l : Launch) (g : GT) (a b q t : Int32)  : Ct l g yX5_areNoValues cX5_areNoValues 4 (some .boolean) 3 0 0 [.int a, .int b, .int q, .int t] (fun _ => True) (fun r H H1 => r = some (.int (bI (noVs a b q t))) ∧ H1 = H) := by
  refine Ct.of (by decide) (Nat.le_of_ble_eq_true rfl) ?_
  intro p e s m args below meth c X hP ls hl
  have hx := X.1
  have hb := X.2.1
  have hKV := X.2.2.2.2.2.2.2.1.1
  have hL : ∀ q ∈ ([] : List Loc), gLo g ≤ q.base := fun _ h => by cases h
  have hl : lv_has ls 4 [(0, .int a), (1, .int b), (2, .int q), (3, .int t)] := hl
  refine lv_iload_n hx hb dX5_areNoValues_0 rfl (lv_at hl 0 rfl) ?_
  refine Cp.callS (v := .int (bI (!inB a (nI 0) (nI 99)))) (ct_X5_isNoValue l g a ) X hL hl sb_X5_isNoValue q1882 rfl rfl (Nat.le_of_ble_eq_true rfl) dX5_areNoValues_1 ⟨Nat.le_of_ble_eq_true rfl, Nat.le_of_ble_eq_true rfl⟩ (by omega) (by omega) trivial (fun locs hL => ?_)
  refine b_ifne (tgt := 28) X dX5_areNoValues_4 (by decide) (fun c_4 => ?_) (fun c_4 => ?_)
  ·
    refine lv_iconst (v := nI 1) hx hb dX5_areNoValues_28 (by decide) ?_
    refine lv_goto (tgt := 33) hx hb dX5_areNoValues_29 (by decide) ?_
    exact r_iret X hL rfl rfl dX5_areNoValues_33 (by omega) (by omega) ⟨v_t (by simp [noVs, c_4]), rfl⟩
  ·
    refine lv_iload_n hx hb dX5_areNoValues_7 rfl (lv_at hl 1 rfl) ?_
    refine Cp.callS (v := .int (bI (!inB b (nI 0) (nI 99)))) (ct_X5_isNoValue l g b ) X hL hl sb_X5_isNoValue q1882 rfl rfl (Nat.le_of_ble_eq_true rfl) dX5_areNoValues_8 ⟨Nat.le_of_ble_eq_true rfl, Nat.le_of_ble_eq_true rfl⟩ (by omega) (by omega) trivial (fun locs hL => ?_)
    refine b_ifne (tgt := 28) X dX5_areNoValues_11 (by decide) (fun c_11 => ?_) (fun c_11 => ?_)
    ·
      refine lv_iconst (v := nI 1) hx hb dX5_areNoValues_28 (by decide) ?_
      refine lv_goto (tgt := 33) hx hb dX5_areNoValues_29 (by decide) ?_
      exact r_iret X hL rfl rfl dX5_areNoValues_33 (by omega) (by omega) ⟨v_t (by simp [noVs, c_4, c_11]), rfl⟩
    ·
      refine lv_iload_n hx hb dX5_areNoValues_14 rfl (lv_at hl 2 rfl) ?_
      refine Cp.callS (v := .int (bI (!inB q (nI 0) (nI 99)))) (ct_X5_isNoValue l g q ) X hL hl sb_X5_isNoValue q1882 rfl rfl (Nat.le_of_ble_eq_true rfl) dX5_areNoValues_15 ⟨Nat.le_of_ble_eq_true rfl, Nat.le_of_ble_eq_true rfl⟩ (by omega) (by omega) trivial (fun locs hL => ?_)
      refine b_ifne (tgt := 28) X dX5_areNoValues_18 (by decide) (fun c_18 => ?_) (fun c_18 => ?_)
      ·
        refine lv_iconst (v := nI 1) hx hb dX5_areNoValues_28 (by decide) ?_
        refine lv_goto (tgt := 33) hx hb dX5_areNoValues_29 (by decide) ?_
        exact r_iret X hL rfl rfl dX5_areNoValues_33 (by omega) (by omega) ⟨v_t (by simp [noVs, c_4, c_11, c_18]), rfl⟩
      ·
        refine lv_iload_n hx hb dX5_areNoValues_21 rfl (lv_at hl 3 rfl) ?_
        refine Cp.callS (v := .int (bI (!inB t (nI 0) (nI 99)))) (ct_X5_isNoValue l g t ) X hL hl sb_X5_isNoValue q1882 rfl rfl (Nat.le_of_ble_eq_true rfl) dX5_areNoValues_22 ⟨Nat.le_of_ble_eq_true rfl, Nat.le_of_ble_eq_true rfl⟩ (by omega) (by omega) trivial (fun locs hL => ?_)
        refine b_ifeq (tgt := 32) X dX5_areNoValues_25 (by decide) (fun c_25 => ?_) (fun c_25 => ?_)
        ·
          refine lv_iconst (v := nI 0) hx hb dX5_areNoValues_32 (by decide) ?_
          exact r_iret X hL rfl rfl dX5_areNoValues_33 (by omega) (by omega) ⟨v_f (by simp [noVs, c_4, c_11, c_18, c_25]), rfl⟩
        ·
          refine lv_iconst (v := nI 1) hx hb dX5_areNoValues_28 (by decide) ?_
          refine lv_goto (tgt := 33) hx hb dX5_areNoValues_29 (by decide) ?_
          exact r_iret X hL rfl rfl dX5_areNoValues_33 (by omega) (by omega) ⟨v_t (by simp [noVs, c_4, c_11, c_18, c_25]), rfl⟩
theorem sb_X5_areNoValues : SB yX5_areNoValues cX5_areNoValues 4 (some .boolean) 4 := ⟨q1880, q111, q1881, ⟨by decide, by decide, by decide +kernel⟩⟩

set_option maxRecDepth 100000 in
set_option maxHeartbeats 4000000 in
theorem ct_X5_record (l : Launch) (g : GT) (o st : Nat) (S : MS) (hst : S.2.1 12 = nI st) (hs6 : st ≤ 6) : Ct l g yX5_record cX5_record 2 none 1 0 0 [.ref o] (MW g o S) (fun r H H1 => r = none ∧ MW g o (uS (uA S 2 (recP (S.1 2) (S.1 0) st)) 12 (nI (recN st + 1))) H1 ∧ Off o H H1) := by
  refine Ct.of (by decide) (Nat.le_of_ble_eq_true rfl) ?_
  intro p e s m args below meth c X hP ls hl
  have hx := X.1
  have hb := X.2.1
  have hKV := X.2.2.2.2.2.2.2.1.1
  have hL : ∀ q ∈ ([] : List Loc), gLo g ≤ q.base := fun _ h => by cases h
  have hl : lv_has ls 2 [(0, .ref o)] := hl
  have hW : MW g o S s.heap := hP
  have hO : Off o s.heap s.heap := Off.rfl'
  have C50 : ∀ (P : Nat → Int32) (q : Nat), (P = if st = 6 then shP (S.1 2) 895 else S.1 2) → (q = recN st) → (q ≤ 5) → ∀ (H : Heap), MW g o (uS (uA S 2 P) 12 (nI q)) H → Off o s.heap H → ∀ (locs : List Loc), (∀ q ∈ locs, gLo g ≤ q.base) → ∀ (ls : Array Slot), lv_has ls 2 [(0, .ref o)] → W p l e (rmL 1 0 0) s m args below meth c H locs 0 0 (MQ below (Qcg (fun r H H1 => r = none ∧ MW g o (uS (uA S 2 (recP (S.1 2) (S.1 0) st)) 12 (nI (recN st + 1))) H1 ∧ Off o H H1)) args s 0 0 (fre g)) (F0 m 50 ls []) := by
    intro P q hP hq hq6 H hW hO locs hL ls hl
    refine lv_iconst (v := nI 0) hx hb dX5_record_50 (by decide) ?_
    refine lv_istore_n (lv' := [(1, .int _), (0, .ref _)]) hx hb dX5_record_51 rfl hl (by decide) rfl (fun ls hl => ?_)
    have L52 : ∀ (fuel : Nat) (k : Nat), 179 - k < fuel → (k ≤ 179) → ∀ (H : Heap), MW g o (uS (uA S 2 (putP P (S.1 0) (179 * q) k)) 12 (nI q)) H → Off o s.heap H → ∀ (locs : List Loc), (∀ q ∈ locs, gLo g ≤ q.base) → ∀ (ls : Array Slot), lv_has ls 2 [(0, .ref o), (1, .int (nI k))] → W p l e (rmL 1 0 0) s m args below meth c H locs 0 0 (MQ below (Qcg (fun r H H1 => r = none ∧ MW g o (uS (uA S 2 (recP (S.1 2) (S.1 0) st)) 12 (nI (recN st + 1))) H1 ∧ Off o H H1)) args s 0 0 (fre g)) (F0 m 52 ls []) := by
      intro fuel
      induction fuel with
      | zero => intro k hfu; exact absurd hfu (Nat.not_lt_zero _)
      | succ fuel ih52 =>
        intro k hfu hk H hW hO locs hL ls hl
        refine lv_iload_n hx hb dX5_record_52 rfl (lv_at hl 1 rfl) ?_
        refine lv_sipush (v := nI 179) hx hb dX5_record_53 (by decide) ?_
        refine n_icmp_ge (tgt := 86) X dX5_record_56 (by decide) (by omega) (by omega) (fun c_56 => ?_) (fun c_56 => ?_)
        ·
          refine lv_aload_n hx hb dX5_record_86 rfl (lv_at hl 0 rfl) ?_
          refine lv_dup hx hb dX5_record_87 rfl ?_
          refine mg_46 X rfl hW dX5_record_88 (W.stk (w := (nI q)) rfl ?_)
          refine lv_iconst (v := nI 1) hx hb dX5_record_91 (by decide) ?_
          refine n_iadd X dX5_record_92 ?_
          refine mp_46 X rfl hL hW dX5_record_93 (fun H locs hL hW hO1 => ?_)
          have hO := hO.trans hO1
          have hW := MW.cast (S1 := uS (uA S 2 (putP P (S.1 0) (179 * q) k)) 12 (nI (q + 1))) hW ⟨rfl, rfl, rfl, rfl, rfl, rfl, rfl, rfl, rfl, rfl, rfl, rfl, rfl, rfl, rfl, rfl, rfl⟩
          exact r_vret X hL dX5_record_96 (by omega) (by omega) ⟨rfl, (by have hk9 : k = 179 := (by omega); subst hk9 hq hP; exact MW.cast hW ⟨rfl, rfl, rfl, rfl, rfl, rfl, rfl, rfl, rfl, rfl, rfl, rfl, rfl, rfl, rfl, rfl, rfl⟩), hO⟩
        ·
          refine lv_aload_n hx hb dX5_record_59 rfl (lv_at hl 0 rfl) ?_
          refine mg_16 X rfl hW dX5_record_60 ?_
          refine lv_sipush (v := nI 179) hx hb dX5_record_63 (by decide) ?_
          refine lv_aload_n hx hb dX5_record_66 rfl (lv_at hl 0 rfl) ?_
          refine mg_46 X rfl hW dX5_record_67 (W.stk (w := (nI q)) rfl ?_)
          refine n_imul X dX5_record_70 ?_
          refine lv_iload_n hx hb dX5_record_71 rfl (lv_at hl 1 rfl) ?_
          refine n_iadd X dX5_record_72 ?_
          refine lv_aload_n hx hb dX5_record_73 rfl (lv_at hl 0 rfl) ?_
          refine mg_7 X rfl hW dX5_record_74 ?_
          refine lv_iload_n hx hb dX5_record_77 rfl (lv_at hl 1 rfl) ?_
          refine m_ld (v := ((S.1 0) k)) X hW 0 (by decide) rfl k rfl (by show k < 179; omega) rfl dX5_record_78 ?_
          refine m_st X hL hW 2 (by decide) rfl ((179 * q) + k) rfl (by show (179 * q) + k < 1074; omega) dX5_record_79 (fun H locs hL hW hO1 => ?_)
          have hO := hO.trans hO1
          have hW := MW.cast (S1 := uS (uA S 2 (upd (putP P (S.1 0) (179 * q) k) ((179 * q) + k) ((S.1 0) k))) 12 (nI q)) hW ⟨rfl, rfl, rfl, rfl, rfl, rfl, rfl, rfl, rfl, rfl, rfl, rfl, rfl, rfl, rfl, rfl, rfl⟩
          have hW := MW.eqA (k := 2) (f := upd (putP P (S.1 0) (179 * q) k) ((179 * q) + k) ((S.1 0) k)) (f1 := putP P (S.1 0) (179 * q) (k + 1)) hW (putP_s _ _ _ _) rfl (fun h => MW.cast (S1 := uS (uA S 2 (putP P (S.1 0) (179 * q) (k + 1))) 12 (nI q)) h ⟨rfl, rfl, rfl, rfl, rfl, rfl, rfl, rfl, rfl, rfl, rfl, rfl, rfl, rfl, rfl, rfl, rfl⟩)
          refine lv_iinc (v := nI (k + 1)) (lv' := [(1, .int _), (0, .ref _)]) hx hb dX5_record_80 hl (k := 1) rfl (nI_iinc _ 1 rfl) (by decide) rfl (fun ls hl => ?_)
          refine lv_goto (tgt := 52) hx hb dX5_record_83 (by decide) ?_
          exact ih52 _ (by omega) (by omega) _ hW hO _ hL ls (lv_sub hl [1, 0] rfl)
    exact L52 180 0 (by omega) (by omega) _ (MW.cast hW ⟨rfl, rfl, (putP_0 _ _ _).symm, rfl, rfl, rfl, rfl, rfl, rfl, rfl, rfl, rfl, rfl, rfl, rfl, rfl, rfl⟩) hO _ hL ls (lv_sub hl [1, 0] rfl)
  refine lv_aload_n hx hb dX5_record_0 rfl (lv_at hl 0 rfl) ?_
  refine mg_46 X rfl hW dX5_record_1 (W.stk (w := (nI st)) hst ?_)
  refine lv_bipush (v := nI 6) hx hb dX5_record_4 (by decide) ?_
  refine n_icmp_ne (tgt := 50) X dX5_record_6 (by decide) (by omega) (by omega) (fun c_6 => ?_) (fun c_6 => ?_)
  ·
    exact C50 (S.1 2) st (by rw [if_neg c_6]) (by simp [recN, c_6]) (by omega) _ (MW.cast hW ⟨rfl, rfl, rfl, rfl, rfl, rfl, rfl, rfl, rfl, rfl, rfl, rfl, hst, rfl, rfl, rfl, rfl⟩) hO _ hL ls (lv_sub hl [0] rfl)
  ·
    refine lv_iconst (v := nI 0) hx hb dX5_record_9 (by decide) ?_
    refine lv_istore_n (lv' := [(1, .int _), (0, .ref _)]) hx hb dX5_record_10 rfl hl (by decide) rfl (fun ls hl => ?_)
    have L11 : ∀ (fuel : Nat) (k : Nat), 895 - k < fuel → (k ≤ 895) → ∀ (H : Heap), MW g o (uA S 2 (shP (S.1 2) k)) H → Off o s.heap H → ∀ (locs : List Loc), (∀ q ∈ locs, gLo g ≤ q.base) → ∀ (ls : Array Slot), lv_has ls 2 [(0, .ref o), (1, .int (nI k))] → W p l e (rmL 1 0 0) s m args below meth c H locs 0 0 (MQ below (Qcg (fun r H H1 => r = none ∧ MW g o (uS (uA S 2 (recP (S.1 2) (S.1 0) st)) 12 (nI (recN st + 1))) H1 ∧ Off o H H1)) args s 0 0 (fre g)) (F0 m 11 ls []) := by
      intro fuel
      induction fuel with
      | zero => intro k hfu; exact absurd hfu (Nat.not_lt_zero _)
      | succ fuel ih11 =>
        intro k hfu hk H hW hO locs hL ls hl
        refine lv_iload_n hx hb dX5_record_11 rfl (lv_at hl 1 rfl) ?_
        refine lv_sipush (v := nI 895) hx hb dX5_record_12 (by decide) ?_
        refine n_icmp_ge (tgt := 40) X dX5_record_15 (by decide) (by omega) (by omega) (fun c_15 => ?_) (fun c_15 => ?_)
        ·
          refine lv_aload_n hx hb dX5_record_40 rfl (lv_at hl 0 rfl) ?_
          refine lv_dup hx hb dX5_record_41 rfl ?_
          refine mg_46 X rfl hW dX5_record_42 (W.stk (w := (nI st)) hst ?_)
          refine lv_iconst (v := nI 1) hx hb dX5_record_45 (by decide) ?_
          refine n_isub X (by omega) dX5_record_46 ?_
          refine mp_46 X rfl hL hW dX5_record_47 (fun H locs hL hW hO1 => ?_)
          have hO := hO.trans hO1
          have hW := MW.cast (S1 := uS (uA S 2 (shP (S.1 2) k)) 12 (nI (st - 1))) hW ⟨rfl, rfl, rfl, rfl, rfl, rfl, rfl, rfl, rfl, rfl, rfl, rfl, rfl, rfl, rfl, rfl, rfl⟩
          have hk9 : k = 895 := by omega
          subst hk9
          exact C50 (shP (S.1 2) 895) (st - 1) (by rw [if_pos (by omega)]) (by rw [c_6]; rfl) (by omega) _ hW hO _ hL ls (lv_sub hl [0] rfl)
        ·
          refine lv_aload_n hx hb dX5_record_18 rfl (lv_at hl 0 rfl) ?_
          refine mg_16 X rfl hW dX5_record_19 ?_
          refine lv_iload_n hx hb dX5_record_22 rfl (lv_at hl 1 rfl) ?_
          refine lv_aload_n hx hb dX5_record_23 rfl (lv_at hl 0 rfl) ?_
          refine mg_16 X rfl hW dX5_record_24 ?_
          refine lv_sipush (v := nI 179) hx hb dX5_record_27 (by decide) ?_
          refine lv_iload_n hx hb dX5_record_30 rfl (lv_at hl 1 rfl) ?_
          refine n_iadd X dX5_record_31 ?_
          refine m_ld (v := ((shP (S.1 2) k) (179 + k))) X hW 2 (by decide) rfl (179 + k) rfl (by show 179 + k < 1074; omega) rfl dX5_record_32 ?_
          refine m_st X hL hW 2 (by decide) rfl k rfl (by show k < 1074; omega) dX5_record_33 (fun H locs hL hW hO1 => ?_)
          have hO := hO.trans hO1
          have hW := MW.cast (S1 := uA S 2 (upd (shP (S.1 2) k) k ((shP (S.1 2) k) (179 + k)))) hW ⟨rfl, rfl, rfl, rfl, rfl, rfl, rfl, rfl, rfl, rfl, rfl, rfl, rfl, rfl, rfl, rfl, rfl⟩
          have hW := MW.eqA (k := 2) (f := upd (shP (S.1 2) k) k ((shP (S.1 2) k) (179 + k))) (f1 := shP (S.1 2) (k + 1)) hW (shP_s _ _) rfl (fun h => MW.cast (S1 := uA S 2 (shP (S.1 2) (k + 1))) h ⟨rfl, rfl, rfl, rfl, rfl, rfl, rfl, rfl, rfl, rfl, rfl, rfl, rfl, rfl, rfl, rfl, rfl⟩)
          refine lv_iinc (v := nI (k + 1)) (lv' := [(1, .int _), (0, .ref _)]) hx hb dX5_record_34 hl (k := 1) rfl (nI_iinc _ 1 rfl) (by decide) rfl (fun ls hl => ?_)
          refine lv_goto (tgt := 11) hx hb dX5_record_37 (by decide) ?_
          exact ih11 _ (by omega) (by omega) _ hW hO _ hL ls (lv_sub hl [1, 0] rfl)
    exact L11 896 0 (by omega) (by omega) _ (MW.cast hW ⟨rfl, rfl, (shP_0 _).symm, rfl, rfl, rfl, rfl, rfl, rfl, rfl, rfl, rfl, rfl, rfl, rfl, rfl, rfl⟩) hO _ hL ls (lv_sub hl [1, 0] rfl)
theorem vb_X5_record : VB yX5_record cX5_record 2 none 0 := ⟨q1890, qs53, q111, q1891, ⟨by decide, by decide, by decide +kernel⟩⟩

set_option maxRecDepth 100000 in
set_option maxHeartbeats 4000000 in
theorem ct_X5_addNow (l : Launch) (g : GT) (o n : Nat) (S : MS) (a b q t : Int32) (hN : S.1 0 160 = nI n) (hn : n < 40) : Ct l g yX5_addNow cX5_addNow 6 (some .int) 1 0 0 [.ref o, .int a, .int b, .int q, .int t] (MW g o S) (fun r H H1 => r = some (.int (nI n)) ∧ MW g o (uA S 0 (addR (S.1 0) n a b q t)) H1 ∧ Off o H H1) := by
  refine Ct.of (by decide) (Nat.le_of_ble_eq_true rfl) ?_
  intro p e s m args below meth c X hP ls hl
  have hx := X.1
  have hb := X.2.1
  have hKV := X.2.2.2.2.2.2.2.1.1
  have hL : ∀ q ∈ ([] : List Loc), gLo g ≤ q.base := fun _ h => by cases h
  have hl : lv_has ls 6 [(0, .ref o), (1, .int a), (2, .int b), (3, .int q), (4, .int t)] := hl
  have hW : MW g o S s.heap := hP
  have hO : Off o s.heap s.heap := Off.rfl'
  refine lv_iconst (v := nI 0) hx hb dX5_addNow_0 (by decide) ?_
  refine lv_iconst (v := nI 4) hx hb dX5_addNow_1 (by decide) ?_
  refine lv_aload_n hx hb dX5_addNow_2 rfl (lv_at hl 0 rfl) ?_
  refine mg_7 X rfl hW dX5_addNow_3 ?_
  refine lv_sipush (v := nI 160) hx hb dX5_addNow_6 (by decide) ?_
  refine m_ld (v := (nI n)) X hW 0 (by decide) rfl 160 rfl (by decide) (show (S.1 0) 160 = (nI n) from hN) dX5_addNow_9 ?_
  refine n_imul X dX5_addNow_10 ?_
  refine n_iadd X dX5_addNow_11 ?_
  refine lv_istore (lv' := [(5, .int _), (0, .ref _), (1, .int _), (2, .int _), (3, .int _), (4, .int _)]) hx hb dX5_addNow_12 hl (by decide) rfl (fun ls hl => ?_)
  refine lv_aload_n hx hb dX5_addNow_14 rfl (lv_at hl 1 rfl) ?_
  refine mg_7 X rfl hW dX5_addNow_15 ?_
  refine lv_iload hx hb dX5_addNow_18 (lv_at hl 0 rfl) ?_
  refine lv_iload_n hx hb dX5_addNow_20 rfl (lv_at hl 2 rfl) ?_
  refine m_st X hL hW 0 (by decide) rfl (4 * n) (congrArg nI (by omega)) (by show 4 * n < 179; omega) dX5_addNow_21 (fun H locs hL hW hO1 => ?_)
  have hO := hO.trans hO1
  have hW := MW.cast (S1 := uA S 0 (upd (S.1 0) (4 * n) a)) hW ⟨rfl, rfl, rfl, rfl, rfl, rfl, rfl, rfl, rfl, rfl, rfl, rfl, rfl, rfl, rfl, rfl, rfl⟩
  refine lv_aload_n hx hb dX5_addNow_22 rfl (lv_at hl 1 rfl) ?_
  refine mg_7 X rfl hW dX5_addNow_23 ?_
  refine lv_iload hx hb dX5_addNow_26 (lv_at hl 0 rfl) ?_
  refine lv_iconst (v := nI 1) hx hb dX5_addNow_28 (by decide) ?_
  refine n_iadd X dX5_addNow_29 ?_
  refine lv_iload_n hx hb dX5_addNow_30 rfl (lv_at hl 3 rfl) ?_
  refine m_st X hL hW 0 (by decide) rfl (4 * n + 1) (congrArg nI (by omega)) (by show 4 * n + 1 < 179; omega) dX5_addNow_31 (fun H locs hL hW hO1 => ?_)
  have hO := hO.trans hO1
  have hW := MW.cast (S1 := uA S 0 (upd (upd (S.1 0) (4 * n) a) (4 * n + 1) b)) hW ⟨rfl, rfl, rfl, rfl, rfl, rfl, rfl, rfl, rfl, rfl, rfl, rfl, rfl, rfl, rfl, rfl, rfl⟩
  refine lv_aload_n hx hb dX5_addNow_32 rfl (lv_at hl 1 rfl) ?_
  refine mg_7 X rfl hW dX5_addNow_33 ?_
  refine lv_iload hx hb dX5_addNow_36 (lv_at hl 0 rfl) ?_
  refine lv_iconst (v := nI 2) hx hb dX5_addNow_38 (by decide) ?_
  refine n_iadd X dX5_addNow_39 ?_
  refine lv_iload_n hx hb dX5_addNow_40 rfl (lv_at hl 4 rfl) ?_
  refine m_st X hL hW 0 (by decide) rfl (4 * n + 2) (congrArg nI (by omega)) (by show 4 * n + 2 < 179; omega) dX5_addNow_41 (fun H locs hL hW hO1 => ?_)
  have hO := hO.trans hO1
  have hW := MW.cast (S1 := uA S 0 (upd (upd (upd (S.1 0) (4 * n) a) (4 * n + 1) b) (4 * n + 2) q)) hW ⟨rfl, rfl, rfl, rfl, rfl, rfl, rfl, rfl, rfl, rfl, rfl, rfl, rfl, rfl, rfl, rfl, rfl⟩
  refine lv_aload_n hx hb dX5_addNow_42 rfl (lv_at hl 1 rfl) ?_
  refine mg_7 X rfl hW dX5_addNow_43 ?_
  refine lv_iload hx hb dX5_addNow_46 (lv_at hl 0 rfl) ?_
  refine lv_iconst (v := nI 3) hx hb dX5_addNow_48 (by decide) ?_
  refine n_iadd X dX5_addNow_49 ?_
  refine lv_iload hx hb dX5_addNow_50 (lv_at hl 5 rfl) ?_
  refine m_st X hL hW 0 (by decide) rfl (4 * n + 3) (congrArg nI (by omega)) (by show 4 * n + 3 < 179; omega) dX5_addNow_52 (fun H locs hL hW hO1 => ?_)
  have hO := hO.trans hO1
  have hW := MW.cast (S1 := uA S 0 (upd (upd (upd (upd (S.1 0) (4 * n) a) (4 * n + 1) b) (4 * n + 2) q) (4 * n + 3) t)) hW ⟨rfl, rfl, rfl, rfl, rfl, rfl, rfl, rfl, rfl, rfl, rfl, rfl, rfl, rfl, rfl, rfl, rfl⟩
  refine lv_aload_n hx hb dX5_addNow_53 rfl (lv_at hl 1 rfl) ?_
  refine mg_7 X rfl hW dX5_addNow_54 ?_
  refine lv_sipush (v := nI 160) hx hb dX5_addNow_57 (by decide) ?_
  refine lv_dup2_11 hx hb dX5_addNow_60 rfl rfl ?_
  refine m_ld (v := (nI n)) X hW 0 (by decide) rfl 160 rfl (by decide) (show (upd (upd (upd (upd (S.1 0) (4 * n) a) (4 * n + 1) b) (4 * n + 2) q) (4 * n + 3) t) 160 = (nI n) from (by rw [upd_n _ _ (by omega), upd_n _ _ (by omega), upd_n _ _ (by omega), upd_n _ _ (by omega)]; exact hN)) dX5_addNow_61 ?_
  refine lv_iconst (v := nI 1) hx hb dX5_addNow_62 (by decide) ?_
  refine n_iadd X dX5_addNow_63 ?_
  refine m_st X hL hW 0 (by decide) rfl 160 rfl (by decide) dX5_addNow_64 (fun H locs hL hW hO1 => ?_)
  have hO := hO.trans hO1
  have hW := MW.cast (S1 := uA S 0 (upd (upd (upd (upd (upd (S.1 0) (4 * n) a) (4 * n + 1) b) (4 * n + 2) q) (4 * n + 3) t) 160 (nI (n + 1)))) hW ⟨rfl, rfl, rfl, rfl, rfl, rfl, rfl, rfl, rfl, rfl, rfl, rfl, rfl, rfl, rfl, rfl, rfl⟩
  refine lv_aload_n hx hb dX5_addNow_65 rfl (lv_at hl 1 rfl) ?_
  refine mg_7 X rfl hW dX5_addNow_66 ?_
  refine lv_sipush (v := nI 177) hx hb dX5_addNow_69 (by decide) ?_
  refine lv_dup2_11 hx hb dX5_addNow_72 rfl rfl ?_
  refine m_ld (v := (S.1 0 177)) X hW 0 (by decide) rfl 177 rfl (by decide) (show (upd (upd (upd (upd (upd (S.1 0) (4 * n) a) (4 * n + 1) b) (4 * n + 2) q) (4 * n + 3) t) 160 (nI (n + 1))) 177 = (S.1 0 177) from (by rw [upd_n _ _ (by decide), upd_n _ _ (by omega), upd_n _ _ (by omega), upd_n _ _ (by omega), upd_n _ _ (by omega)])) dX5_addNow_73 ?_
  refine lv_iconst (v := nI 1) hx hb dX5_addNow_74 (by decide) ?_
  refine lv_iadd hx hb dX5_addNow_75 ?_
  refine m_st X hL hW 0 (by decide) rfl 177 rfl (by decide) dX5_addNow_76 (fun H locs hL hW hO1 => ?_)
  have hO := hO.trans hO1
  have hW := MW.cast (S1 := uA S 0 (upd (upd (upd (upd (upd (upd (S.1 0) (4 * n) a) (4 * n + 1) b) (4 * n + 2) q) (4 * n + 3) t) 160 (nI (n + 1))) 177 ((S.1 0 177) + (nI 1)))) hW ⟨rfl, rfl, rfl, rfl, rfl, rfl, rfl, rfl, rfl, rfl, rfl, rfl, rfl, rfl, rfl, rfl, rfl⟩
  refine lv_aload_n hx hb dX5_addNow_77 rfl (lv_at hl 1 rfl) ?_
  refine mg_7 X rfl hW dX5_addNow_78 ?_
  refine lv_sipush (v := nI 160) hx hb dX5_addNow_81 (by decide) ?_
  refine m_ld (v := (nI (n + 1))) X hW 0 (by decide) rfl 160 rfl (by decide) (show (upd (upd (upd (upd (upd (upd (S.1 0) (4 * n) a) (4 * n + 1) b) (4 * n + 2) q) (4 * n + 3) t) 160 (nI (n + 1))) 177 ((S.1 0 177) + (nI 1))) 160 = (nI (n + 1)) from (by rw [upd_n _ _ (by decide), upd_s])) dX5_addNow_84 ?_
  refine lv_iconst (v := nI 1) hx hb dX5_addNow_85 (by decide) ?_
  refine n_isub X (by omega) dX5_addNow_86 ?_
  exact r_iret X hL rfl rfl dX5_addNow_87 (by omega) (by omega) ⟨(by rw [Nat.add_sub_cancel]), (MW.cast hW ⟨rfl, rfl, rfl, rfl, rfl, rfl, rfl, rfl, rfl, rfl, rfl, rfl, rfl, rfl, rfl, rfl, rfl⟩), hO⟩
theorem vb_X5_addNow : VB yX5_addNow cX5_addNow 6 (some .int) 4 := ⟨q1894, qs54, q111, q1895, ⟨by decide, by decide, by decide +kernel⟩⟩

set_option maxRecDepth 100000 in
set_option maxHeartbeats 4000000 in
theorem ct_X5_removeNow (l : Launch) (g : GT) (o n i : Nat) (S : MS) (hN : S.1 0 160 = nI n) (hn : n ≤ 40) (hi : i < n) : Ct l g yX5_removeNow cX5_removeNow 3 none 1 0 0 [.ref o, .int (nI i)] (MW g o S) (fun r H H1 => r = none ∧ MW g o (uA S 0 (delR (S.1 0) n i)) H1 ∧ Off o H H1) := by
  refine Ct.of (by decide) (Nat.le_of_ble_eq_true rfl) ?_
  intro p e s m args below meth c X hP ls hl
  have hx := X.1
  have hb := X.2.1
  have hKV := X.2.2.2.2.2.2.2.1.1
  have hL : ∀ q ∈ ([] : List Loc), gLo g ≤ q.base := fun _ h => by cases h
  have hl : lv_has ls 3 [(0, .ref o), (1, .int (nI i))] := hl
  have hW : MW g o S s.heap := hP
  have hO : Off o s.heap s.heap := Off.rfl'
  refine lv_iconst (v := nI 4) hx hb dX5_removeNow_0 (by decide) ?_
  refine lv_iload_n hx hb dX5_removeNow_1 rfl (lv_at hl 1 rfl) ?_
  refine n_imul X dX5_removeNow_2 ?_
  refine lv_istore_n (lv' := [(2, .int _), (0, .ref _), (1, .int _)]) hx hb dX5_removeNow_3 rfl hl (by decide) rfl (fun ls hl => ?_)
  have L4 : ∀ (fuel : Nat) (k : Nat), 4 * n - k < fuel → (4 * i ≤ k) → (k ≤ 4 * n - 4) → ∀ (H : Heap), MW g o (uA S 0 (remR (S.1 0) i k)) H → Off o s.heap H → ∀ (locs : List Loc), (∀ q ∈ locs, gLo g ≤ q.base) → ∀ (ls : Array Slot), lv_has ls 3 [(0, .ref o), (1, .int (nI i)), (2, .int (nI k))] → W p l e (rmL 1 0 0) s m args below meth c H locs 0 0 (MQ below (Qcg (fun r H H1 => r = none ∧ MW g o (uA S 0 (delR (S.1 0) n i)) H1 ∧ Off o H H1)) args s 0 0 (fre g)) (F0 m 4 ls []) := by
    intro fuel
    induction fuel with
    | zero => intro k hfu; exact absurd hfu (Nat.not_lt_zero _)
    | succ fuel ih4 =>
      intro k hfu hk1 hk H hW hO locs hL ls hl
      refine lv_iload_n hx hb dX5_removeNow_4 rfl (lv_at hl 2 rfl) ?_
      refine lv_iconst (v := nI 4) hx hb dX5_removeNow_5 (by decide) ?_
      refine lv_aload_n hx hb dX5_removeNow_6 rfl (lv_at hl 0 rfl) ?_
      refine mg_7 X rfl hW dX5_removeNow_7 ?_
      refine lv_sipush (v := nI 160) hx hb dX5_removeNow_10 (by decide) ?_
      refine m_ld (v := (nI n)) X hW 0 (by decide) rfl 160 rfl (by decide) (show (remR (S.1 0) i k) 160 = (nI n) from (by rw [remR_l _ (by omega)]; exact hN)) dX5_removeNow_13 ?_
      refine n_imul X dX5_removeNow_14 ?_
      refine lv_iconst (v := nI 4) hx hb dX5_removeNow_15 (by decide) ?_
      refine n_isub X (by omega) dX5_removeNow_16 ?_
      refine n_icmp_ge (tgt := 44) X dX5_removeNow_17 (by decide) (by omega) (by omega) (fun c_17 => ?_) (fun c_17 => ?_)
      ·
        refine lv_aload_n hx hb dX5_removeNow_44 rfl (lv_at hl 0 rfl) ?_
        refine mg_7 X rfl hW dX5_removeNow_45 ?_
        refine lv_sipush (v := nI 160) hx hb dX5_removeNow_48 (by decide) ?_
        refine lv_dup2_11 hx hb dX5_removeNow_51 rfl rfl ?_
        refine m_ld (v := (nI n)) X hW 0 (by decide) rfl 160 rfl (by decide) (show (remR (S.1 0) i k) 160 = (nI n) from (by rw [remR_l _ (by omega)]; exact hN)) dX5_removeNow_52 ?_
        refine lv_iconst (v := nI 1) hx hb dX5_removeNow_53 (by decide) ?_
        refine n_isub X (by omega) dX5_removeNow_54 ?_
        refine m_st X hL hW 0 (by decide) rfl 160 rfl (by decide) dX5_removeNow_55 (fun H locs hL hW hO1 => ?_)
        have hO := hO.trans hO1
        have hW := MW.cast (S1 := uA S 0 (upd (remR (S.1 0) i k) 160 (nI (n - 1)))) hW ⟨rfl, rfl, rfl, rfl, rfl, rfl, rfl, rfl, rfl, rfl, rfl, rfl, rfl, rfl, rfl, rfl, rfl⟩
        refine lv_aload_n hx hb dX5_removeNow_56 rfl (lv_at hl 0 rfl) ?_
        refine mg_7 X rfl hW dX5_removeNow_57 ?_
        refine lv_sipush (v := nI 178) hx hb dX5_removeNow_60 (by decide) ?_
        refine lv_dup2_11 hx hb dX5_removeNow_63 rfl rfl ?_
        refine m_ld (v := (S.1 0 178)) X hW 0 (by decide) rfl 178 rfl (by decide) (show (upd (remR (S.1 0) i k) 160 (nI (n - 1))) 178 = (S.1 0 178) from (by rw [upd_n _ _ (by decide), remR_l _ (by omega)])) dX5_removeNow_64 ?_
        refine lv_iconst (v := nI 1) hx hb dX5_removeNow_65 (by decide) ?_
        refine lv_iadd hx hb dX5_removeNow_66 ?_
        refine m_st X hL hW 0 (by decide) rfl 178 rfl (by decide) dX5_removeNow_67 (fun H locs hL hW hO1 => ?_)
        have hO := hO.trans hO1
        have hW := MW.cast (S1 := uA S 0 (upd (upd (remR (S.1 0) i k) 160 (nI (n - 1))) 178 ((S.1 0 178) + (nI 1)))) hW ⟨rfl, rfl, rfl, rfl, rfl, rfl, rfl, rfl, rfl, rfl, rfl, rfl, rfl, rfl, rfl, rfl, rfl⟩
        exact r_vret X hL dX5_removeNow_68 (by omega) (by omega) ⟨rfl, (by have hk9 : k = 4 * n - 4 := (by omega); subst hk9; exact MW.cast hW ⟨rfl, rfl, rfl, rfl, rfl, rfl, rfl, rfl, rfl, rfl, rfl, rfl, rfl, rfl, rfl, rfl, rfl⟩), hO⟩
      ·
        refine lv_aload_n hx hb dX5_removeNow_20 rfl (lv_at hl 0 rfl) ?_
        refine mg_7 X rfl hW dX5_removeNow_21 ?_
        refine lv_iconst (v := nI 0) hx hb dX5_removeNow_24 (by decide) ?_
        refine lv_iload_n hx hb dX5_removeNow_25 rfl (lv_at hl 2 rfl) ?_
        refine n_iadd X dX5_removeNow_26 ?_
        refine lv_aload_n hx hb dX5_removeNow_27 rfl (lv_at hl 0 rfl) ?_
        refine mg_7 X rfl hW dX5_removeNow_28 ?_
        refine lv_iconst (v := nI 0) hx hb dX5_removeNow_31 (by decide) ?_
        refine lv_iload_n hx hb dX5_removeNow_32 rfl (lv_at hl 2 rfl) ?_
        refine n_iadd X dX5_removeNow_33 ?_
        refine lv_iconst (v := nI 4) hx hb dX5_removeNow_34 (by decide) ?_
        refine n_iadd X dX5_removeNow_35 ?_
        refine m_ld (v := ((remR (S.1 0) i k) (k + 4))) X hW 0 (by decide) rfl (k + 4) (congrArg nI (by omega)) (by show k + 4 < 179; omega) rfl dX5_removeNow_36 ?_
        refine m_st X hL hW 0 (by decide) rfl k (congrArg nI (by omega)) (by show k < 179; omega) dX5_removeNow_37 (fun H locs hL hW hO1 => ?_)
        have hO := hO.trans hO1
        have hW := MW.cast (S1 := uA S 0 (upd (remR (S.1 0) i k) k ((remR (S.1 0) i k) (k + 4)))) hW ⟨rfl, rfl, rfl, rfl, rfl, rfl, rfl, rfl, rfl, rfl, rfl, rfl, rfl, rfl, rfl, rfl, rfl⟩
        have hW := MW.eqA (k := 0) (f := upd (remR (S.1 0) i k) k ((remR (S.1 0) i k) (k + 4))) (f1 := remR (S.1 0) i (k + 1)) hW (remR_s _ hk1 rfl) rfl (fun h => MW.cast (S1 := uA S 0 (remR (S.1 0) i (k + 1))) h ⟨rfl, rfl, rfl, rfl, rfl, rfl, rfl, rfl, rfl, rfl, rfl, rfl, rfl, rfl, rfl, rfl, rfl⟩)
        refine lv_iinc (v := nI (k + 1)) (lv' := [(2, .int _), (0, .ref _), (1, .int _)]) hx hb dX5_removeNow_38 hl (k := 2) rfl (nI_iinc _ 1 rfl) (by decide) rfl (fun ls hl => ?_)
        refine lv_goto (tgt := 4) hx hb dX5_removeNow_41 (by decide) ?_
        exact ih4 _ (by omega) (by omega) (by omega) _ hW hO _ hL ls (lv_sub hl [1, 2, 0] rfl)
  exact L4 (4 * n - 4 * i + 1) (4 * i) (by omega) (by omega) (by omega) _ (MW.cast hW ⟨(remR_0 _ _).symm, rfl, rfl, rfl, rfl, rfl, rfl, rfl, rfl, rfl, rfl, rfl, rfl, rfl, rfl, rfl, rfl⟩) hO _ hL ls (lv_sub hl [1, 2, 0] rfl)
theorem vb_X5_removeNow : VB yX5_removeNow cX5_removeNow 3 none 1 := ⟨q1910, qs57, q111, q1911, ⟨by decide, by decide, by decide +kernel⟩⟩
