/-! the library's small methods over numbers -/
def mxI (a b : Int32) : Int32 := if a < b then b else a
def mnI (a b : Int32) : Int32 := if b < a then b else a
theorem mxI_n {a b : Nat} (ha : a < 2 ^ 31) (hb : b < 2 ^ 31) : mxI (nI a) (nI b) = nI (max a b) := by
  unfold mxI
  by_cases h : a < b
  · rw [if_pos ((nI_ltI ha hb).mpr h), Nat.max_eq_right (by omega)]
  · rw [if_neg (mt (nI_ltI ha hb).mp h), Nat.max_eq_left (by omega)]
theorem mnI_n {a b : Nat} (ha : a < 2 ^ 31) (hb : b < 2 ^ 31) : mnI (nI a) (nI b) = nI (min a b) := by
  unfold mnI
  by_cases h : b < a
  · rw [if_pos ((nI_ltI hb ha).mpr h), Nat.min_eq_right (by omega)]
  · rw [if_neg (mt (nI_ltI hb ha).mp h), Nat.min_eq_left (by omega)]
def dcN (i k : Nat) : Nat := if i = 0 then k - 1 else i - 1
def icN (i k : Nat) : Nat := if i + 1 < k then i + 1 else 0
def sbN (i j k : Nat) : Nat := if j ≤ i then i - j else i + k - j
theorem nI_neg {i j : Nat} (h : i < j) (hj : j < 2 ^ 30) : nI i - nI j < 0 := by
  rw [Int32.lt_iff_toInt_lt, Int32.toInt_sub, nI_toInt (by omega), nI_toInt (by omega), Int.bmod_def]
  have : (0 : Int32).toInt = 0 := by decide
  omega
theorem nI_nneg {i j : Nat} (h : j ≤ i) (hi : i < 2 ^ 30) : ¬ nI i - nI j < 0 := by
  rw [pk_sub h]; exact nI_pos (by omega)
theorem nI_wrap {i j k : Nat} (h : i < j) (hk : j ≤ i + k) : nI i - nI j + nI k = nI (i + k - j) := by
  rw [← pk_sub hk, ← nI_add, Int32.sub_eq_add_neg, Int32.sub_eq_add_neg, Int32.add_assoc, Int32.add_assoc, Int32.add_comm (-nI j)]
theorem m1_eq (x : Int32) : x + Int32.ofInt (-1) = x - nI 1 := by rw [Int32.sub_eq_add_neg]; rfl

set_option maxRecDepth 100000 in
set_option maxHeartbeats 4000000 in
theorem ct_J14_checkIndex (l : Launch) (g : GT) (i k : Nat) (hi : i < k) (hk : k < 2 ^ 31) : Ct l g yJ14_checkIndex cJ14_checkIndex 3 (some .int) 1 0 0 [.int (nI i), .int (nI k), .null] (fun _ => True) (fun r H H1 => r = some (.int (nI i)) ∧ H1 = H) := by
  refine Ct.of (by decide) (Nat.le_of_ble_eq_true rfl) ?_
  intro p e s m args below meth c X hP ls hl
  have hx := X.1
  have hb := X.2.1
  have hKV := X.2.2.2.2.2.2.2.1.1
  have hL : ∀ q ∈ ([] : List Loc), gLo g ≤ q.base := fun _ h => by cases h
  have hl : lv_has ls 3 [(0, .int (nI i)), (1, .int (nI k)), (2, .null)] := hl
  refine lv_iload_n hx hb dJ14_checkIndex_0 rfl (lv_at hl 0 rfl) ?_
  refine n_iflt (tgt := 9) X dJ14_checkIndex_1 (by decide) (by omega) (fun c_1 => ?_) (fun c_1 => ?_)
  ·
    exact c_1.elim
  ·
    refine lv_iload_n hx hb dJ14_checkIndex_4 rfl (lv_at hl 0 rfl) ?_
    refine lv_iload_n hx hb dJ14_checkIndex_5 rfl (lv_at hl 1 rfl) ?_
    refine n_icmp_lt (tgt := 16) X dJ14_checkIndex_6 (by decide) (by omega) (by omega) (fun c_6 => ?_) (fun c_6 => ?_)
    ·
      refine lv_iload_n hx hb dJ14_checkIndex_16 rfl (lv_at hl 0 rfl) ?_
      exact r_iret X hL rfl rfl dJ14_checkIndex_17 (by omega) (by omega) ⟨rfl, rfl⟩
    ·
      exact absurd hi (by omega)
theorem sb_J14_checkIndex : SB yJ14_checkIndex cJ14_checkIndex 3 (some .int) 3 := ⟨q350, q118, q351, ⟨by decide, by decide, by decide +kernel⟩⟩

set_option maxRecDepth 100000 in
set_option maxHeartbeats 4000000 in
theorem ct_J13_checkIndex (l : Launch) (g : GT) (i k : Nat) (hi : i < k) (hk : k < 2 ^ 31) : Ct l g yJ13_checkIndex cJ13_checkIndex 2 (some .int) 2 0 0 [.int (nI i), .int (nI k)] (fun _ => True) (fun r H H1 => r = some (.int (nI i)) ∧ H1 = H) := by
  refine Ct.of (by decide) (Nat.le_of_ble_eq_true rfl) ?_
  intro p e s m args below meth c X hP ls hl
  have hx := X.1
  have hb := X.2.1
  have hKV := X.2.2.2.2.2.2.2.1.1
  have hL : ∀ q ∈ ([] : List Loc), gLo g ≤ q.base := fun _ h => by cases h
  have hl : lv_has ls 2 [(0, .int (nI i)), (1, .int (nI k))] := hl
  refine lv_iload_n hx hb dJ13_checkIndex_0 rfl (lv_at hl 0 rfl) ?_
  refine lv_iload_n hx hb dJ13_checkIndex_1 rfl (lv_at hl 1 rfl) ?_
  refine lv_null hx hb dJ13_checkIndex_2 ?_
  refine Cp.callS (v := .int (nI i)) (ct_J14_checkIndex l g i k (by omega) (by omega)) X hL hl sb_J14_checkIndex q349 rfl rfl (Nat.le_of_ble_eq_true rfl) dJ13_checkIndex_3 ⟨Nat.le_of_ble_eq_true rfl, Nat.le_of_ble_eq_true rfl⟩ (by omega) (by omega) trivial (fun locs hL => ?_)
  exact r_iret X hL rfl rfl dJ13_checkIndex_6 (by omega) (by omega) ⟨rfl, rfl⟩
theorem sb_J13_checkIndex : SB yJ13_checkIndex cJ13_checkIndex 2 (some .int) 2 := ⟨q347, q117, q348, ⟨by decide, by decide, by decide +kernel⟩⟩

set_option maxRecDepth 100000 in
set_option maxHeartbeats 4000000 in
theorem ct_J3_sub (l : Launch) (g : GT) (i j k : Nat) (hi : i < k) (hj : j < k) (hk : k < 2 ^ 29) : Ct l g yJ3_sub cJ3_sub 3 (some .int) 1 0 0 [.int (nI i), .int (nI j), .int (nI k)] (fun _ => True) (fun r H H1 => r = some (.int (nI (sbN i j k))) ∧ H1 = H) := by
  refine Ct.of (by decide) (Nat.le_of_ble_eq_true rfl) ?_
  intro p e s m args below meth c X hP ls hl
  have hx := X.1
  have hb := X.2.1
  have hKV := X.2.2.2.2.2.2.2.1.1
  have hL : ∀ q ∈ ([] : List Loc), gLo g ≤ q.base := fun _ h => by cases h
  have hl : lv_has ls 3 [(0, .int (nI i)), (1, .int (nI j)), (2, .int (nI k))] := hl
  refine lv_iload_n hx hb dJ3_sub_0 rfl (lv_at hl 0 rfl) ?_
  refine lv_iload_n hx hb dJ3_sub_1 rfl (lv_at hl 1 rfl) ?_
  refine lv_isub hx hb dJ3_sub_2 ?_
  refine lv_dup hx hb dJ3_sub_3 rfl ?_
  refine lv_istore_n (lv' := [(0, .int _), (1, .int _), (2, .int _)]) hx hb dJ3_sub_4 rfl hl (by decide) rfl (fun ls hl => ?_)
  refine lv_if_ge (tgt := 12) hx hb dJ3_sub_5 (by decide) (fun c_5 => ?_) (fun c_5 => ?_)
  ·
    refine lv_iload_n hx hb dJ3_sub_12 rfl (lv_at hl 0 rfl) ?_
    exact r_iret X hL rfl rfl dJ3_sub_13 (by omega) (by omega) ⟨v_i (by have h : j ≤ i := Nat.le_of_not_lt (fun q => absurd (nI_neg q (by omega)) (Int32.not_lt.mpr c_5)); rw [sbN, if_pos h, pk_sub h]), rfl⟩
  ·
    refine lv_iload_n hx hb dJ3_sub_8 rfl (lv_at hl 0 rfl) ?_
    refine lv_iload_n hx hb dJ3_sub_9 rfl (lv_at hl 2 rfl) ?_
    refine lv_iadd hx hb dJ3_sub_10 ?_
    refine lv_istore_n (lv' := [(0, .int _), (1, .int _), (2, .int _)]) hx hb dJ3_sub_11 rfl hl (by decide) rfl (fun ls hl => ?_)
    refine lv_iload_n hx hb dJ3_sub_12 rfl (lv_at hl 0 rfl) ?_
    exact r_iret X hL rfl rfl dJ3_sub_13 (by omega) (by omega) ⟨v_i (by have h : i < j := Nat.lt_of_not_le (fun q => absurd (nI_nneg q (by omega)) (fun z => c_5 (Int32.not_lt.mp z))); rw [sbN, if_neg (by omega)]; exact nI_wrap h (by omega)), rfl⟩
theorem sb_J3_sub : SB yJ3_sub cJ3_sub 3 (some .int) 3 := ⟨q310, q106, q311, ⟨by decide, by decide, by decide +kernel⟩⟩

set_option maxRecDepth 100000 in
set_option maxHeartbeats 4000000 in
theorem ct_J3_dec (l : Launch) (g : GT) (i k : Nat) (hi : i < k) (hk : k < 2 ^ 29) : Ct l g yJ3_dec cJ3_dec 2 (some .int) 1 0 0 [.int (nI i), .int (nI k)] (fun _ => True) (fun r H H1 => r = some (.int (nI (dcN i k))) ∧ H1 = H) := by
  refine Ct.of (by decide) (Nat.le_of_ble_eq_true rfl) ?_
  intro p e s m args below meth c X hP ls hl
  have hx := X.1
  have hb := X.2.1
  have hKV := X.2.2.2.2.2.2.2.1.1
  have hL : ∀ q ∈ ([] : List Loc), gLo g ≤ q.base := fun _ h => by cases h
  have hl : lv_has ls 2 [(0, .int (nI i)), (1, .int (nI k))] := hl
  refine lv_iinc (v := (nI i - nI 1)) (lv' := [(0, .int _), (1, .int _)]) hx hb dJ3_dec_0 hl (k := 0) rfl (m1_eq _) (by decide) rfl (fun ls hl => ?_)
  refine lv_iload_n hx hb dJ3_dec_3 rfl (lv_at hl 0 rfl) ?_
  refine lv_if_ge (tgt := 11) hx hb dJ3_dec_4 (by decide) (fun c_4 => ?_) (fun c_4 => ?_)
  ·
    refine lv_iload_n hx hb dJ3_dec_11 rfl (lv_at hl 0 rfl) ?_
    exact r_iret X hL rfl rfl dJ3_dec_12 (by omega) (by omega) ⟨v_i (by have h : 1 ≤ i := Nat.le_of_not_lt (fun q => absurd (nI_neg q (by omega)) (Int32.not_lt.mpr c_4)); rw [dcN, if_neg (by omega), pk_sub h]), rfl⟩
  ·
    refine lv_iload_n hx hb dJ3_dec_7 rfl (lv_at hl 1 rfl) ?_
    refine lv_iconst (v := nI 1) hx hb dJ3_dec_8 (by decide) ?_
    refine n_isub X (by omega) dJ3_dec_9 ?_
    refine lv_istore_n (lv' := [(0, .int _), (1, .int _)]) hx hb dJ3_dec_10 rfl hl (by decide) rfl (fun ls hl => ?_)
    refine lv_iload_n hx hb dJ3_dec_11 rfl (lv_at hl 0 rfl) ?_
    exact r_iret X hL rfl rfl dJ3_dec_12 (by omega) (by omega) ⟨v_i (by have h : i < 1 := Nat.lt_of_not_le (fun q => absurd (nI_nneg q (by omega)) (fun z => c_4 (Int32.not_lt.mp z))); rw [dcN, if_pos (by omega)]), rfl⟩
theorem sb_J3_dec : SB yJ3_dec cJ3_dec 2 (some .int) 2 := ⟨q321, q106, q322, ⟨by decide, by decide, by decide +kernel⟩⟩

set_option maxRecDepth 100000 in
set_option maxHeartbeats 4000000 in
theorem ct_J3_inc (l : Launch) (g : GT) (i k : Nat) (hi : i < k) (hk : k < 2 ^ 29) : Ct l g yJ3_inc cJ3_inc 2 (some .int) 1 0 0 [.int (nI i), .int (nI k)] (fun _ => True) (fun r H H1 => r = some (.int (nI (icN i k))) ∧ H1 = H) := by
  refine Ct.of (by decide) (Nat.le_of_ble_eq_true rfl) ?_
  intro p e s m args below meth c X hP ls hl
  have hx := X.1
  have hb := X.2.1
  have hKV := X.2.2.2.2.2.2.2.1.1
  have hL : ∀ q ∈ ([] : List Loc), gLo g ≤ q.base := fun _ h => by cases h
  have hl : lv_has ls 2 [(0, .int (nI i)), (1, .int (nI k))] := hl
  refine lv_iinc (v := nI (i + 1)) (lv' := [(0, .int _), (1, .int _)]) hx hb dJ3_inc_0 hl (k := 0) rfl (nI_iinc _ 1 rfl) (by decide) rfl (fun ls hl => ?_)
  refine lv_iload_n hx hb dJ3_inc_3 rfl (lv_at hl 0 rfl) ?_
  refine lv_iload_n hx hb dJ3_inc_4 rfl (lv_at hl 1 rfl) ?_
  refine n_icmp_lt (tgt := 10) X dJ3_inc_5 (by decide) (by omega) (by omega) (fun c_5 => ?_) (fun c_5 => ?_)
  ·
    refine lv_iload_n hx hb dJ3_inc_10 rfl (lv_at hl 0 rfl) ?_
    exact r_iret X hL rfl rfl dJ3_inc_11 (by omega) (by omega) ⟨v_i (by rw [icN, if_pos (by omega)]), rfl⟩
  ·
    refine lv_iconst (v := nI 0) hx hb dJ3_inc_8 (by decide) ?_
    refine lv_istore_n (lv' := [(0, .int _), (1, .int _)]) hx hb dJ3_inc_9 rfl hl (by decide) rfl (fun ls hl => ?_)
    refine lv_iload_n hx hb dJ3_inc_10 rfl (lv_at hl 0 rfl) ?_
    exact r_iret X hL rfl rfl dJ3_inc_11 (by omega) (by omega) ⟨v_i (by rw [icN, if_neg (by omega)]), rfl⟩
theorem sb_J3_inc : SB yJ3_inc cJ3_inc 2 (some .int) 2 := ⟨q1550, q106, q1551, ⟨by decide, by decide, by decide +kernel⟩⟩

set_option maxRecDepth 100000 in
set_option maxHeartbeats 4000000 in
theorem ct_J15_newLength (l : Launch) (g : GT) (i j k : Nat) (hi : i < 2 ^ 20) (hj : j < 2 ^ 20) (hk : k < 2 ^ 20) (h0 : 0 < i + max j k) : Ct l g yJ15_newLength cJ15_newLength 4 (some .int) 2 0 0 [.int (nI i), .int (nI j), .int (nI k)] (fun _ => True) (fun r H H1 => r = some (.int (nI (i + max j k))) ∧ H1 = H) := by
  refine Ct.of (by decide) (Nat.le_of_ble_eq_true rfl) ?_
  intro p e s m args below meth c X hP ls hl
  have hx := X.1
  have hb := X.2.1
  have hKV := X.2.2.2.2.2.2.2.1.1
  have hL : ∀ q ∈ ([] : List Loc), gLo g ≤ q.base := fun _ h => by cases h
  have hl : lv_has ls 4 [(0, .int (nI i)), (1, .int (nI j)), (2, .int (nI k))] := hl
  refine lv_iload_n hx hb dJ15_newLength_0 rfl (lv_at hl 0 rfl) ?_
  refine lv_iload_n hx hb dJ15_newLength_1 rfl (lv_at hl 1 rfl) ?_
  refine lv_iload_n hx hb dJ15_newLength_2 rfl (lv_at hl 2 rfl) ?_
  refine va_mmax hx hb (X.2.2.1.trans hl.1.symm) X.2.2.2.1 (X.2.2.2.2.1 _ q379) (X.2.2.2.2.1 _ q380) (X.2.2.2.2.1 _ q120) (X.2.2.2.2.1 _ q381) (Nat.le_of_ble_eq_true rfl) (Nat.le_of_ble_eq_true rfl) (by show _ ≤ _; omega) (by show _ ≤ _; omega) dJ15_newLength_3 ?_
  refine W.stk (w := mxI (nI j) (nI k)) rfl ?_
  refine W.stk (w := (nI (max j k))) (mxI_n (by omega) (by omega)) ?_
  refine n_iadd X dJ15_newLength_6 ?_
  refine lv_istore_n (lv' := [(3, .int _), (0, .int _), (1, .int _), (2, .int _)]) hx hb dJ15_newLength_7 rfl hl (by decide) rfl (fun ls hl => ?_)
  refine lv_iconst (v := nI 0) hx hb dJ15_newLength_8 (by decide) ?_
  refine lv_iload_n hx hb dJ15_newLength_9 rfl (lv_at hl 0 rfl) ?_
  refine n_icmp_ge (tgt := 21) X dJ15_newLength_10 (by decide) (by omega) (by omega) (fun c_10 => ?_) (fun c_10 => ?_)
  ·
    exact absurd c_10 (by omega)
  ·
    refine lv_iload_n hx hb dJ15_newLength_13 rfl (lv_at hl 0 rfl) ?_
    refine lv_ldc hx hb X.2.2.2.1 (X.2.2.2.2.1 _ q382) dJ15_newLength_14 ?_
    refine W.stk (w := (nI 2147483639)) (by decide) ?_
    refine n_icmp_gt (tgt := 21) X dJ15_newLength_16 (by decide) (by omega) (by omega) (fun c_16 => ?_) (fun c_16 => ?_)
    ·
      exact absurd c_16 (by omega)
    ·
      refine lv_iload_n hx hb dJ15_newLength_19 rfl (lv_at hl 0 rfl) ?_
      exact r_iret X hL rfl rfl dJ15_newLength_20 (by omega) (by omega) ⟨rfl, rfl⟩
theorem sb_J15_newLength : SB yJ15_newLength cJ15_newLength 4 (some .int) 3 := ⟨q377, q119, q378, ⟨by decide, by decide, by decide +kernel⟩⟩
