/-! the model's walks, third part -/
def scoN (w we f : Nat → Int32) : Nat → Int32
  | 0 => nI 0
  | n + 1 => scoN w we f n + (if matB w n then goodI w f n * we n else nI 0)
def scoI (r : Nat → Int32) (i : Nat) : Int32 := scoN (mw r) (mwe r) (mv r i) 4
/-- j is ahead of k -/
def ahB (r : Nat → Int32) (k j : Nat) : Bool := cB r j && (decide (scoI r k < scoI r j) || (decide (scoI r j = scoI r k) && decide (j < k)))
def rnkN (r : Nat → Int32) (n k : Nat) : Nat := cnt (ahB r k) n
/-- the first k below n with p, or -1 -/
def fstI (p : Nat → Bool) : Nat → Int32
  | 0 => (-1)
  | n + 1 => if fstI p n = (-1) then (if p n then nI n else (-1)) else fstI p n
def bestI (r : Nat → Int32) (a b : Nat) (x : Int32) : Nat → Int32
  | 0 => (-1)
  | n + 1 => if cB r n && (decide (x ≤ goodI (mw r) (mv r n) a) && decide (bestI r a b x n < goodI (mw r) (mv r n) b)) then goodI (mw r) (mv r n) b else bestI r a b x n
def reaI (r : Nat → Int32) (n a b : Nat) : Nat → Int32
  | 0 => nI 0
  | x + 1 => reaI r n a b x + (bestI r a b (nI x) n + nI 1)
def wbB (r : Nat → Int32) (t : Int32) (i k : Nat) : Bool := decide (k ≠ i) && (cB r k && (decide (t ≤ nI (cnt (matB (mw r)) 4) - nI (betN (mw r) (mv r i) (mv r k) (hasB (matI (mw r))))) && decide (0 < betN (mw r) (mv r k) (mv r i) (hasB (matI (mw r))))))
def anyB (p : Nat → Bool) (n : Nat) : Bool := !allB (fun k => !p k) n
def amI (a b c d : Int32) : Nat → Int32 := fun k => if k = 0 then a else if k = 1 then b else if k = 2 then c else d
def upN (w f h : Nat → Int32) : Nat := cnt (fun s => matB w s && decide (goodI w h s < goodI w f s)) 4
def agN (w f h : Nat → Int32) : Nat := if 0 < upN w f h ∧ upN w h f = 0 then 1 else if 0 < upN w h f ∧ upN w f h = 0 then 2 else 0
def unB (r : Nat → Int32) (n : Nat) (v : Nat → Int32) : Bool := couB (mle r) (mgr r) v && allB (fun k => !cB r k || !decide (agN (mw r) (mv r k) v = 1)) n
def sumN (f : Nat → Nat) : Nat → Nat
  | 0 => 0
  | n + 1 => sumN f n + f n
def beaN (r : Nat → Int32) (n i : Nat) : Nat := cnt (beatB r i) n
theorem sumN_le {f : Nat → Nat} {b : Nat} (h : ∀ k, f k ≤ b) : ∀ n, sumN f n ≤ n * b
  | 0 => Nat.zero_le _
  | n + 1 => by
    have := sumN_le h n
    have := h n
    unfold sumN
    rw [Nat.succ_mul]; omega
theorem allB_t {p : Nat → Bool} {k : Nat} (hv : allB p k = true) (h : p k = true) : allB p (k + 1) = true := allB_s hv h
theorem anyB_t {p : Nat → Bool} {k n : Nat} (h : p k = true) (hk : k < n) : anyB p n = true := by
  unfold anyB; rw [allB_false (k := k) (by rw [h]; rfl) n hk]; rfl
theorem fstI_k {p : Nat → Bool} {k : Nat} (hk : k < 2 ^ 31) (h0 : fstI p k = (-1)) (h : p k = true) : ∀ n, k < n → fstI p n = nI k
  | 0, q => absurd q (Nat.not_lt_zero _)
  | n + 1, q => by
    have hne : ¬ nI k = (-1) := fun e => by
      have := nI_pos hk
      rw [e] at this
      exact this (by decide)
    unfold fstI
    rcases Nat.lt_or_ge k n with q1 | q1
    · rw [fstI_k hk h0 h n q1, if_neg hne]
    · have : k = n := by omega
      subst this
      rw [h0, if_pos rfl, if_pos h]
theorem fstI_s {p : Nat → Bool} {k : Nat} (h0 : fstI p k = (-1)) (h : p k = false) : fstI p (k + 1) = (-1) := by
  unfold fstI; rw [h0, if_pos rfl, h]; rfl
theorem updB {f : Nat → Int32} {k : Nat} {u v : Int32} {b : Bool} (h : v = bI b) : upd (upd f k u) k v = upd f k (bI b) := by rw [upd_upd, h]
theorem updC {f : Nat → Int32} {k : Nat} {a b : Bool} (h : a = b) : upd f k (bI a) = upd f k (bI b) := by rw [h]
theorem allB_c (p : Bool) (f : Nat → Bool) {q : Bool} (h : p = q) : (p && f 0) = (q && f 0) := by rw [h]

set_option maxRecDepth 100000 in
set_option maxHeartbeats 4000000 in
theorem ct_X5_beaters (l : Launch) (g : GT) (o n i : Nat) (S : MS) (hN : S.1 0 160 = nI n) (hn : n ≤ 40) (hi : i < 40) : Ct l g yX5_beaters cX5_beaters 4 (some .int) 6 0 0 [.ref o, .int (nI i)] (MW g o S) (fun r H H1 => r = some (.int (nI (cnt (fun j => beatB (S.1 0) j i) n))) ∧ H1 = H) := by
  refine Ct.of (by decide) (Nat.le_of_ble_eq_true rfl) ?_
  intro p e s m args below meth c X hP ls hl
  have hx := X.1
  have hb := X.2.1
  have hKV := X.2.2.2.2.2.2.2.1.1
  have hL : ∀ q ∈ ([] : List Loc), gLo g ≤ q.base := fun _ h => by cases h
  have hl : lv_has ls 4 [(0, .ref o), (1, .int (nI i))] := hl
  have hW : MW g o S s.heap := hP
  have hO : Off o s.heap s.heap := Off.rfl'
  refine lv_iconst (v := nI 0) hx hb dX5_beaters_0 (by decide) ?_
  refine lv_istore_n (lv' := [(2, .int _), (0, .ref _), (1, .int _)]) hx hb dX5_beaters_1 rfl hl (by decide) rfl (fun ls hl => ?_)
  refine lv_iconst (v := nI 0) hx hb dX5_beaters_2 (by decide) ?_
  refine lv_istore_n (lv' := [(3, .int _), (2, .int _), (0, .ref _), (1, .int _)]) hx hb dX5_beaters_3 rfl hl (by decide) rfl (fun ls hl => ?_)
  have L4 : ∀ (fuel : Nat) (k v : Nat), n - k < fuel → (v = cnt (fun j => beatB (S.1 0) j i) k) → (k ≤ n) → ∀ (locs : List Loc), (∀ q ∈ locs, gLo g ≤ q.base) → ∀ (ls : Array Slot), lv_has ls 4 [(0, .ref o), (1, .int (nI i)), (2, .int (nI v)), (3, .int (nI k))] → W p l e (rmL 6 0 0) s m args below meth c s.heap locs 0 0 (MQ below (Qcg (fun r H H1 => r = some (.int (nI (cnt (fun j => beatB (S.1 0) j i) n))) ∧ H1 = H)) args s 0 0 (fre g)) (F0 m 4 ls []) := by
    intro fuel
    induction fuel with
    | zero => intro k v hfu; exact absurd hfu (Nat.not_lt_zero _)
    | succ fuel ih4 =>
      intro k v hfu hv hk  locs hL ls hl
      have hvb : v ≤ k := by rw [hv]; exact cnt_le _ _
      refine lv_iload_n hx hb dX5_beaters_4 rfl (lv_at hl 3 rfl) ?_
      refine lv_aload_n hx hb dX5_beaters_5 rfl (lv_at hl 0 rfl) ?_
      refine mg_7 X rfl hW dX5_beaters_6 ?_
      refine lv_sipush (v := nI 160) hx hb dX5_beaters_9 (by decide) ?_
      refine m_ld (v := (nI n)) X hW 0 (by decide) rfl 160 rfl (by decide) (show (S.1 0) 160 = (nI n) from hN) dX5_beaters_12 ?_
      refine n_icmp_ge (tgt := 39) X dX5_beaters_13 (by decide) (by omega) (by omega) (fun c_13 => ?_) (fun c_13 => ?_)
      ·
        refine lv_iload_n hx hb dX5_beaters_39 rfl (lv_at hl 2 rfl) ?_
        exact r_iret X hL rfl rfl dX5_beaters_40 (by omega) (by omega) ⟨v_n (by rw [hv, show k = n by omega]), rfl⟩
      ·
        refine lv_iload_n hx hb dX5_beaters_16 rfl (lv_at hl 2 rfl) ?_
        refine lv_aload_n hx hb dX5_beaters_17 rfl (lv_at hl 0 rfl) ?_
        refine lv_iload_n hx hb dX5_beaters_18 rfl (lv_at hl 3 rfl) ?_
        refine lv_iload_n hx hb dX5_beaters_19 rfl (lv_at hl 1 rfl) ?_
        refine Cp.callV (v := .int (bI (beatB (S.1 0) k i))) (ct_X5_beat l g o k i S (by omega) (by omega)) X hL hl vb_X5_beat q2083 (hW.2.1.recv hKV rfl) rfl rfl (Nat.le_of_ble_eq_true rfl) dX5_beaters_20 ⟨Nat.le_of_ble_eq_true rfl, Nat.le_of_ble_eq_true rfl⟩ (by omega) (by omega) hW (fun locs hL => ?_)
        refine b_ifeq (tgt := 30) X dX5_beaters_23 (by decide) (fun c_23 => ?_) (fun c_23 => ?_)
        ·
          refine lv_iconst (v := nI 0) hx hb dX5_beaters_30 (by decide) ?_
          refine n_iadd X dX5_beaters_31 ?_
          refine lv_istore_n (lv' := [(2, .int _), (0, .ref _), (1, .int _), (3, .int _)]) hx hb dX5_beaters_32 rfl hl (by decide) rfl (fun ls hl => ?_)
          refine lv_iinc (v := nI (k + 1)) (lv' := [(3, .int _), (2, .int _), (0, .ref _), (1, .int _)]) hx hb dX5_beaters_33 hl (k := 3) rfl (nI_iinc _ 1 rfl) (by decide) rfl (fun ls hl => ?_)
          refine lv_goto (tgt := 4) hx hb dX5_beaters_36 (by decide) ?_
          exact ih4 _ _ (by omega) (by first | exact cnt_t hv c_23 | exact cnt_f hv c_23) (by omega) _ hL ls (lv_sub hl [2, 3, 1, 0] rfl)
        ·
          refine lv_iconst (v := nI 1) hx hb dX5_beaters_26 (by decide) ?_
          refine lv_goto (tgt := 31) hx hb dX5_beaters_27 (by decide) ?_
          refine n_iadd X dX5_beaters_31 ?_
          refine lv_istore_n (lv' := [(2, .int _), (0, .ref _), (1, .int _), (3, .int _)]) hx hb dX5_beaters_32 rfl hl (by decide) rfl (fun ls hl => ?_)
          refine lv_iinc (v := nI (k + 1)) (lv' := [(3, .int _), (2, .int _), (0, .ref _), (1, .int _)]) hx hb dX5_beaters_33 hl (k := 3) rfl (nI_iinc _ 1 rfl) (by decide) rfl (fun ls hl => ?_)
          refine lv_goto (tgt := 4) hx hb dX5_beaters_36 (by decide) ?_
          exact ih4 _ _ (by omega) (by first | exact cnt_t hv c_23 | exact cnt_f hv c_23) (by omega) _ hL ls (lv_sub hl [2, 3, 1, 0] rfl)
  exact L4 (n + 1) 0 0 (by omega) rfl (by omega) _ hL ls (lv_sub hl [2, 3, 1, 0] rfl)
theorem vb_X5_beaters : VB yX5_beaters cX5_beaters 4 (some .int) 1 := ⟨q2097, qs79, q111, q2098, ⟨by decide, by decide, by decide +kernel⟩⟩

set_option maxRecDepth 100000 in
set_option maxHeartbeats 4000000 in
theorem ct_X5_beaten (l : Launch) (g : GT) (o n i : Nat) (S : MS) (hN : S.1 0 160 = nI n) (hn : n ≤ 40) (hi : i < 40) : Ct l g yX5_beaten cX5_beaten 4 (some .int) 6 0 0 [.ref o, .int (nI i)] (MW g o S) (fun r H H1 => r = some (.int (nI (cnt (beatB (S.1 0) i) n))) ∧ H1 = H) := by
  refine Ct.of (by decide) (Nat.le_of_ble_eq_true rfl) ?_
  intro p e s m args below meth c X hP ls hl
  have hx := X.1
  have hb := X.2.1
  have hKV := X.2.2.2.2.2.2.2.1.1
  have hL : ∀ q ∈ ([] : List Loc), gLo g ≤ q.base := fun _ h => by cases h
  have hl : lv_has ls 4 [(0, .ref o), (1, .int (nI i))] := hl
  have hW : MW g o S s.heap := hP
  have hO : Off o s.heap s.heap := Off.rfl'
  refine lv_iconst (v := nI 0) hx hb dX5_beaten_0 (by decide) ?_
  refine lv_istore_n (lv' := [(2, .int _), (0, .ref _), (1, .int _)]) hx hb dX5_beaten_1 rfl hl (by decide) rfl (fun ls hl => ?_)
  refine lv_iconst (v := nI 0) hx hb dX5_beaten_2 (by decide) ?_
  refine lv_istore_n (lv' := [(3, .int _), (2, .int _), (0, .ref _), (1, .int _)]) hx hb dX5_beaten_3 rfl hl (by decide) rfl (fun ls hl => ?_)
  have L4 : ∀ (fuel : Nat) (k v : Nat), n - k < fuel → (v = cnt (beatB (S.1 0) i) k) → (k ≤ n) → ∀ (locs : List Loc), (∀ q ∈ locs, gLo g ≤ q.base) → ∀ (ls : Array Slot), lv_has ls 4 [(0, .ref o), (1, .int (nI i)), (2, .int (nI v)), (3, .int (nI k))] → W p l e (rmL 6 0 0) s m args below meth c s.heap locs 0 0 (MQ below (Qcg (fun r H H1 => r = some (.int (nI (cnt (beatB (S.1 0) i) n))) ∧ H1 = H)) args s 0 0 (fre g)) (F0 m 4 ls []) := by
    intro fuel
    induction fuel with
    | zero => intro k v hfu; exact absurd hfu (Nat.not_lt_zero _)
    | succ fuel ih4 =>
      intro k v hfu hv hk  locs hL ls hl
      have hvb : v ≤ k := by rw [hv]; exact cnt_le _ _
      refine lv_iload_n hx hb dX5_beaten_4 rfl (lv_at hl 3 rfl) ?_
      refine lv_aload_n hx hb dX5_beaten_5 rfl (lv_at hl 0 rfl) ?_
      refine mg_7 X rfl hW dX5_beaten_6 ?_
      refine lv_sipush (v := nI 160) hx hb dX5_beaten_9 (by decide) ?_
      refine m_ld (v := (nI n)) X hW 0 (by decide) rfl 160 rfl (by decide) (show (S.1 0) 160 = (nI n) from hN) dX5_beaten_12 ?_
      refine n_icmp_ge (tgt := 39) X dX5_beaten_13 (by decide) (by omega) (by omega) (fun c_13 => ?_) (fun c_13 => ?_)
      ·
        refine lv_iload_n hx hb dX5_beaten_39 rfl (lv_at hl 2 rfl) ?_
        exact r_iret X hL rfl rfl dX5_beaten_40 (by omega) (by omega) ⟨v_n (by rw [hv, show k = n by omega]), rfl⟩
      ·
        refine lv_iload_n hx hb dX5_beaten_16 rfl (lv_at hl 2 rfl) ?_
        refine lv_aload_n hx hb dX5_beaten_17 rfl (lv_at hl 0 rfl) ?_
        refine lv_iload_n hx hb dX5_beaten_18 rfl (lv_at hl 1 rfl) ?_
        refine lv_iload_n hx hb dX5_beaten_19 rfl (lv_at hl 3 rfl) ?_
        refine Cp.callV (v := .int (bI (beatB (S.1 0) i k))) (ct_X5_beat l g o i k S (by omega) (by omega)) X hL hl vb_X5_beat q2083 (hW.2.1.recv hKV rfl) rfl rfl (Nat.le_of_ble_eq_true rfl) dX5_beaten_20 ⟨Nat.le_of_ble_eq_true rfl, Nat.le_of_ble_eq_true rfl⟩ (by omega) (by omega) hW (fun locs hL => ?_)
        refine b_ifeq (tgt := 30) X dX5_beaten_23 (by decide) (fun c_23 => ?_) (fun c_23 => ?_)
        ·
          refine lv_iconst (v := nI 0) hx hb dX5_beaten_30 (by decide) ?_
          refine n_iadd X dX5_beaten_31 ?_
          refine lv_istore_n (lv' := [(2, .int _), (0, .ref _), (1, .int _), (3, .int _)]) hx hb dX5_beaten_32 rfl hl (by decide) rfl (fun ls hl => ?_)
          refine lv_iinc (v := nI (k + 1)) (lv' := [(3, .int _), (2, .int _), (0, .ref _), (1, .int _)]) hx hb dX5_beaten_33 hl (k := 3) rfl (nI_iinc _ 1 rfl) (by decide) rfl (fun ls hl => ?_)
          refine lv_goto (tgt := 4) hx hb dX5_beaten_36 (by decide) ?_
          exact ih4 _ _ (by omega) (by first | exact cnt_t hv c_23 | exact cnt_f hv c_23) (by omega) _ hL ls (lv_sub hl [2, 3, 1, 0] rfl)
        ·
          refine lv_iconst (v := nI 1) hx hb dX5_beaten_26 (by decide) ?_
          refine lv_goto (tgt := 31) hx hb dX5_beaten_27 (by decide) ?_
          refine n_iadd X dX5_beaten_31 ?_
          refine lv_istore_n (lv' := [(2, .int _), (0, .ref _), (1, .int _), (3, .int _)]) hx hb dX5_beaten_32 rfl hl (by decide) rfl (fun ls hl => ?_)
          refine lv_iinc (v := nI (k + 1)) (lv' := [(3, .int _), (2, .int _), (0, .ref _), (1, .int _)]) hx hb dX5_beaten_33 hl (k := 3) rfl (nI_iinc _ 1 rfl) (by decide) rfl (fun ls hl => ?_)
          refine lv_goto (tgt := 4) hx hb dX5_beaten_36 (by decide) ?_
          exact ih4 _ _ (by omega) (by first | exact cnt_t hv c_23 | exact cnt_f hv c_23) (by omega) _ hL ls (lv_sub hl [2, 3, 1, 0] rfl)
  exact L4 (n + 1) 0 0 (by omega) rfl (by omega) _ hL ls (lv_sub hl [2, 3, 1, 0] rfl)
theorem vb_X5_beaten : VB yX5_beaten cX5_beaten 4 (some .int) 1 := ⟨q2105, qs80, q111, q2106, ⟨by decide, by decide, by decide +kernel⟩⟩

set_option maxRecDepth 100000 in
set_option maxHeartbeats 4000000 in
theorem ct_X5_isTold (l : Launch) (g : GT) (o n i : Nat) (S : MS) (hN : S.1 0 160 = nI n) (hn : n ≤ 40) (hi : i < 40) : Ct l g yX5_isTold cX5_isTold 4 (some .boolean) 6 0 0 [.ref o, .int (nI i)] (MW g o S) (fun r H H1 => r = some (.int (bI (isTB (S.1 0) n i))) ∧ H1 = H) := by
  refine Ct.of (by decide) (Nat.le_of_ble_eq_true rfl) ?_
  intro p e s m args below meth c X hP ls hl
  have hx := X.1
  have hb := X.2.1
  have hKV := X.2.2.2.2.2.2.2.1.1
  have hL : ∀ q ∈ ([] : List Loc), gLo g ≤ q.base := fun _ h => by cases h
  have hl : lv_has ls 4 [(0, .ref o), (1, .int (nI i))] := hl
  have hW : MW g o S s.heap := hP
  have hO : Off o s.heap s.heap := Off.rfl'
  refine lv_aload_n hx hb dX5_isTold_0 rfl (lv_at hl 0 rfl) ?_
  refine lv_iload_n hx hb dX5_isTold_1 rfl (lv_at hl 1 rfl) ?_
  refine Cp.callV (v := .int (bI (cB (S.1 0) i))) (ct_X5_counts l g o i S (by omega)) X hL hl vb_X5_counts q1939 (hW.2.1.recv hKV rfl) rfl rfl (Nat.le_of_ble_eq_true rfl) dX5_isTold_2 ⟨Nat.le_of_ble_eq_true rfl, Nat.le_of_ble_eq_true rfl⟩ (by omega) (by omega) hW (fun locs hL => ?_)
  refine lv_istore_n (lv' := [(2, .int _), (0, .ref _), (1, .int _)]) hx hb dX5_isTold_5 rfl hl (by decide) rfl (fun ls hl => ?_)
  refine lv_iconst (v := nI 0) hx hb dX5_isTold_6 (by decide) ?_
  refine lv_istore_n (lv' := [(3, .int _), (2, .int _), (0, .ref _), (1, .int _)]) hx hb dX5_isTold_7 rfl hl (by decide) rfl (fun ls hl => ?_)
  have L8 : ∀ (fuel : Nat) (b : Bool) (k : Nat), n - k < fuel → (b = (cB (S.1 0) i && allB (fun j => !beatB (S.1 0) j i) k)) → (k ≤ n) → ∀ (locs : List Loc), (∀ q ∈ locs, gLo g ≤ q.base) → ∀ (ls : Array Slot), lv_has ls 4 [(0, .ref o), (1, .int (nI i)), (2, .int (bI b)), (3, .int (nI k))] → W p l e (rmL 6 0 0) s m args below meth c s.heap locs 0 0 (MQ below (Qcg (fun r H H1 => r = some (.int (bI (isTB (S.1 0) n i))) ∧ H1 = H)) args s 0 0 (fre g)) (F0 m 8 ls []) := by
    intro fuel
    induction fuel with
    | zero => intro b k hfu; exact absurd hfu (Nat.not_lt_zero _)
    | succ fuel ih8 =>
      intro b k hfu hv hk  locs hL ls hl
      refine lv_iload_n hx hb dX5_isTold_8 rfl (lv_at hl 3 rfl) ?_
      refine lv_aload_n hx hb dX5_isTold_9 rfl (lv_at hl 0 rfl) ?_
      refine mg_7 X rfl hW dX5_isTold_10 ?_
      refine lv_sipush (v := nI 160) hx hb dX5_isTold_13 (by decide) ?_
      refine m_ld (v := (nI n)) X hW 0 (by decide) rfl 160 rfl (by decide) (show (S.1 0) 160 = (nI n) from hN) dX5_isTold_16 ?_
      refine n_icmp_ge (tgt := 45) X dX5_isTold_17 (by decide) (by omega) (by omega) (fun c_17 => ?_) (fun c_17 => ?_)
      ·
        refine lv_iload_n hx hb dX5_isTold_45 rfl (lv_at hl 2 rfl) ?_
        exact r_iret X hL rfl (narrow_bI _) dX5_isTold_46 (by omega) (by omega) ⟨v_b (by rw [hv, show k = n by omega]; rfl), rfl⟩
      ·
        refine lv_iload_n hx hb dX5_isTold_20 rfl (lv_at hl 2 rfl) ?_
        refine b_ifeq (tgt := 45) X dX5_isTold_21 (by decide) (fun c_21 => ?_) (fun c_21 => ?_)
        ·
          refine lv_iload_n hx hb dX5_isTold_45 rfl (lv_at hl 2 rfl) ?_
          exact r_iret X hL rfl (narrow_bI _) dX5_isTold_46 (by omega) (by omega) ⟨v_b (by rw [c_21]; exact (andB_f (hv.symm.trans c_21) hk).symm), rfl⟩
        ·
          refine lv_aload_n hx hb dX5_isTold_24 rfl (lv_at hl 0 rfl) ?_
          refine lv_iload_n hx hb dX5_isTold_25 rfl (lv_at hl 3 rfl) ?_
          refine lv_iload_n hx hb dX5_isTold_26 rfl (lv_at hl 1 rfl) ?_
          refine Cp.callV (v := .int (bI (beatB (S.1 0) k i))) (ct_X5_beat l g o k i S (by omega) (by omega)) X hL hl vb_X5_beat q2083 (hW.2.1.recv hKV rfl) rfl rfl (Nat.le_of_ble_eq_true rfl) dX5_isTold_27 ⟨Nat.le_of_ble_eq_true rfl, Nat.le_of_ble_eq_true rfl⟩ (by omega) (by omega) hW (fun locs hL => ?_)
          refine b_ifne (tgt := 37) X dX5_isTold_30 (by decide) (fun c_30 => ?_) (fun c_30 => ?_)
          ·
            refine lv_iconst (v := nI 0) hx hb dX5_isTold_37 (by decide) ?_
            refine lv_istore_n (lv' := [(2, .int _), (0, .ref _), (1, .int _), (3, .int _)]) hx hb dX5_isTold_38 rfl hl (by decide) rfl (fun ls hl => ?_)
            refine lv_iinc (v := nI (k + 1)) (lv' := [(3, .int _), (2, .int _), (0, .ref _), (1, .int _)]) hx hb dX5_isTold_39 hl (k := 3) rfl (nI_iinc _ 1 rfl) (by decide) rfl (fun ls hl => ?_)
            refine lv_goto (tgt := 8) hx hb dX5_isTold_42 (by decide) ?_
            exact ih8 false (k + 1) (by omega) (by rw [hv] at c_21; rw [allB_1, ← Bool.and_assoc, c_21, c_30]; rfl) (by omega) _ hL ls (lv_sub hl [2, 3, 1, 0] rfl)
          ·
            refine lv_iconst (v := nI 1) hx hb dX5_isTold_33 (by decide) ?_
            refine lv_goto (tgt := 38) hx hb dX5_isTold_34 (by decide) ?_
            refine lv_istore_n (lv' := [(2, .int _), (0, .ref _), (1, .int _), (3, .int _)]) hx hb dX5_isTold_38 rfl hl (by decide) rfl (fun ls hl => ?_)
            refine lv_iinc (v := nI (k + 1)) (lv' := [(3, .int _), (2, .int _), (0, .ref _), (1, .int _)]) hx hb dX5_isTold_39 hl (k := 3) rfl (nI_iinc _ 1 rfl) (by decide) rfl (fun ls hl => ?_)
            refine lv_goto (tgt := 8) hx hb dX5_isTold_42 (by decide) ?_
            exact ih8 true (k + 1) (by omega) (by rw [hv] at c_21; rw [allB_1, ← Bool.and_assoc, c_21, c_30]; rfl) (by omega) _ hL ls (lv_sub hl [2, 3, 1, 0] rfl)
  exact L8 (n + 1) (cB (S.1 0) i) 0 (by omega) (by simp [allB_0]) (by omega) _ hL ls (lv_sub hl [2, 3, 1, 0] rfl)
theorem vb_X5_isTold : VB yX5_isTold cX5_isTold 4 (some .boolean) 1 := ⟨q2113, qs81, q111, q2114, ⟨by decide, by decide, by decide +kernel⟩⟩

set_option maxRecDepth 100000 in
set_option maxHeartbeats 4000000 in
theorem ct_X5_tell (l : Launch) (g : GT) (o n : Nat) (S : MS) (sd : Int32) (hN : S.1 0 160 = nI n) (hn : n ≤ 40) : Ct l g yX5_tell cX5_tell 5 (some .int) 5 0 0 [.ref o, .int sd] (MW g o S) (fun r H H1 => r = some (.int (nI (cnt (tellB (S.1 0) n (hasB sd)) n))) ∧ MW g o (uA S 5 (setB (S.1 5) n (tellB (S.1 0) n (hasB sd)))) H1 ∧ Off o H H1) := by
  refine Ct.of (by decide) (Nat.le_of_ble_eq_true rfl) ?_
  intro p e s m args below meth c X hP ls hl
  have hx := X.1
  have hb := X.2.1
  have hKV := X.2.2.2.2.2.2.2.1.1
  have hL : ∀ q ∈ ([] : List Loc), gLo g ≤ q.base := fun _ h => by cases h
  have hl : lv_has ls 5 [(0, .ref o), (1, .int sd)] := hl
  have hW : MW g o S s.heap := hP
  have hO : Off o s.heap s.heap := Off.rfl'
  refine lv_iconst (v := nI 0) hx hb dX5_tell_0 (by decide) ?_
  refine lv_istore_n (lv' := [(2, .int _), (0, .ref _), (1, .int _)]) hx hb dX5_tell_1 rfl hl (by decide) rfl (fun ls hl => ?_)
  refine lv_iconst (v := nI 0) hx hb dX5_tell_2 (by decide) ?_
  refine lv_istore_n (lv' := [(3, .int _), (2, .int _), (0, .ref _), (1, .int _)]) hx hb dX5_tell_3 rfl hl (by decide) rfl (fun ls hl => ?_)
  have L4 : ∀ (fuel : Nat) (k v : Nat), n - k < fuel → (v = cnt (tellB (S.1 0) n (hasB sd)) k) → (k ≤ n) → ∀ (H : Heap), MW g o (uA S 5 (setB (S.1 5) k (tellB (S.1 0) n (hasB sd)))) H → Off o s.heap H → ∀ (locs : List Loc), (∀ q ∈ locs, gLo g ≤ q.base) → ∀ (ls : Array Slot), lv_has ls 5 [(0, .ref o), (1, .int sd), (2, .int (nI v)), (3, .int (nI k))] → W p l e (rmL 5 0 0) s m args below meth c H locs 0 0 (MQ below (Qcg (fun r H H1 => r = some (.int (nI (cnt (tellB (S.1 0) n (hasB sd)) n))) ∧ MW g o (uA S 5 (setB (S.1 5) n (tellB (S.1 0) n (hasB sd)))) H1 ∧ Off o H H1)) args s 0 0 (fre g)) (F0 m 4 ls []) := by
    intro fuel
    induction fuel with
    | zero => intro k v hfu; exact absurd hfu (Nat.not_lt_zero _)
    | succ fuel ih4 =>
      intro k v hfu hv hk H hW hO locs hL ls hl
      have hvb : v ≤ k := by rw [hv]; exact cnt_le _ _
      refine lv_iload_n hx hb dX5_tell_4 rfl (lv_at hl 3 rfl) ?_
      refine lv_aload_n hx hb dX5_tell_5 rfl (lv_at hl 0 rfl) ?_
      refine mg_7 X rfl hW dX5_tell_6 ?_
      refine lv_sipush (v := nI 160) hx hb dX5_tell_9 (by decide) ?_
      refine m_ld (v := (nI n)) X hW 0 (by decide) rfl 160 rfl (by decide) (show (S.1 0) 160 = (nI n) from hN) dX5_tell_12 ?_
      refine n_icmp_ge (tgt := 112) X dX5_tell_13 (by decide) (by omega) (by omega) (fun c_13 => ?_) (fun c_13 => ?_)
      ·
        refine lv_iload_n hx hb dX5_tell_112 rfl (lv_at hl 2 rfl) ?_
        exact r_iret X hL rfl rfl dX5_tell_113 (by omega) (by omega) ⟨(by rw [hv, show k = n by omega]), (by have hk9 : k = n := (by omega); subst hk9; exact MW.cast hW ⟨rfl, rfl, rfl, rfl, rfl, rfl, rfl, rfl, rfl, rfl, rfl, rfl, rfl, rfl, rfl, rfl, rfl⟩), hO⟩
      ·
        refine lv_aload_n hx hb dX5_tell_16 rfl (lv_at hl 0 rfl) ?_
        refine mg_25 X rfl hW dX5_tell_17 ?_
        refine lv_iload_n hx hb dX5_tell_20 rfl (lv_at hl 3 rfl) ?_
        refine lv_aload_n hx hb dX5_tell_21 rfl (lv_at hl 0 rfl) ?_
        refine lv_iload_n hx hb dX5_tell_22 rfl (lv_at hl 3 rfl) ?_
        refine Cp.callV (v := .int (bI (cB (S.1 0) k))) (ct_X5_counts l g o k (uA S 5 (setB (S.1 5) k (tellB (S.1 0) n (hasB sd)))) (by omega)) X hL hl vb_X5_counts q1939 (hW.2.1.recv hKV rfl) rfl rfl (Nat.le_of_ble_eq_true rfl) dX5_tell_23 ⟨Nat.le_of_ble_eq_true rfl, Nat.le_of_ble_eq_true rfl⟩ (by omega) (by omega) hW (fun locs hL => ?_)
        refine m_zst X hL hW 5 (by decide) rfl k rfl (by show k < 41; omega) (nar_bI _) dX5_tell_26 (fun H locs hL hW hO1 => ?_)
        have hO := hO.trans hO1
        have hW := MW.cast (S1 := uA S 5 (upd (setB (S.1 5) k (tellB (S.1 0) n (hasB sd))) k (bI (cB (S.1 0) k)))) hW ⟨rfl, rfl, rfl, rfl, rfl, rfl, rfl, rfl, rfl, rfl, rfl, rfl, rfl, rfl, rfl, rfl, rfl⟩
        refine lv_iconst (v := nI 0) hx hb dX5_tell_27 (by decide) ?_
        refine lv_istore (lv' := [(4, .int _), (0, .ref _), (1, .int _), (2, .int _), (3, .int _)]) hx hb dX5_tell_28 hl (by decide) rfl (fun ls hl => ?_)
        have C89 : ∀ (H : Heap), MW g o (uA S 5 (upd (setB (S.1 5) k (tellB (S.1 0) n (hasB sd))) k (bI (tellB (S.1 0) n (hasB sd) k)))) H → Off o s.heap H → ∀ (locs : List Loc), (∀ q ∈ locs, gLo g ≤ q.base) → ∀ (ls : Array Slot), lv_has ls 5 [(0, .ref o), (1, .int sd), (2, .int (nI v)), (3, .int (nI k))] → W p l e (rmL 5 0 0) s m args below meth c H locs 0 0 (MQ below (Qcg (fun r H H1 => r = some (.int (nI (cnt (tellB (S.1 0) n (hasB sd)) n))) ∧ MW g o (uA S 5 (setB (S.1 5) n (tellB (S.1 0) n (hasB sd)))) H1 ∧ Off o H H1)) args s 0 0 (fre g)) (F0 m 89 ls []) := by
          intro   H hW hO locs hL ls hl
          refine lv_iload_n hx hb dX5_tell_89 rfl (lv_at hl 2 rfl) ?_
          refine lv_aload_n hx hb dX5_tell_90 rfl (lv_at hl 0 rfl) ?_
          refine mg_25 X rfl hW dX5_tell_91 ?_
          refine lv_iload_n hx hb dX5_tell_94 rfl (lv_at hl 3 rfl) ?_
          refine m_zld (v := (bI (tellB (S.1 0) n (hasB sd) k))) X hW 5 (by decide) rfl k rfl (by show k < 41; omega) (show (upd (setB (S.1 5) k (tellB (S.1 0) n (hasB sd))) k (bI (tellB (S.1 0) n (hasB sd) k))) k = (bI (tellB (S.1 0) n (hasB sd) k)) from (upd_s _ _ _)) dX5_tell_95 ?_
          refine b_ifeq (tgt := 103) X dX5_tell_96 (by decide) (fun c_96 => ?_) (fun c_96 => ?_)
          ·
            refine lv_iconst (v := nI 0) hx hb dX5_tell_103 (by decide) ?_
            refine n_iadd X dX5_tell_104 ?_
            refine lv_istore_n (lv' := [(2, .int _), (0, .ref _), (1, .int _), (3, .int _)]) hx hb dX5_tell_105 rfl hl (by decide) rfl (fun ls hl => ?_)
            refine lv_iinc (v := nI (k + 1)) (lv' := [(3, .int _), (2, .int _), (0, .ref _), (1, .int _)]) hx hb dX5_tell_106 hl (k := 3) rfl (nI_iinc _ 1 rfl) (by decide) rfl (fun ls hl => ?_)
            refine lv_goto (tgt := 4) hx hb dX5_tell_109 (by decide) ?_
            exact ih4 _ _ (by omega) (by first | exact cnt_t hv c_96 | exact cnt_f hv c_96) (by omega) _ (MW.cast hW ⟨rfl, rfl, rfl, rfl, rfl, setB_s _ _ _ rfl, rfl, rfl, rfl, rfl, rfl, rfl, rfl, rfl, rfl, rfl, rfl⟩) hO _ hL ls (lv_sub hl [2, 3, 1, 0] rfl)
          ·
            refine lv_iconst (v := nI 1) hx hb dX5_tell_99 (by decide) ?_
            refine lv_goto (tgt := 104) hx hb dX5_tell_100 (by decide) ?_
            refine n_iadd X dX5_tell_104 ?_
            refine lv_istore_n (lv' := [(2, .int _), (0, .ref _), (1, .int _), (3, .int _)]) hx hb dX5_tell_105 rfl hl (by decide) rfl (fun ls hl => ?_)
            refine lv_iinc (v := nI (k + 1)) (lv' := [(3, .int _), (2, .int _), (0, .ref _), (1, .int _)]) hx hb dX5_tell_106 hl (k := 3) rfl (nI_iinc _ 1 rfl) (by decide) rfl (fun ls hl => ?_)
            refine lv_goto (tgt := 4) hx hb dX5_tell_109 (by decide) ?_
            exact ih4 _ _ (by omega) (by first | exact cnt_t hv c_96 | exact cnt_f hv c_96) (by omega) _ (MW.cast hW ⟨rfl, rfl, rfl, rfl, rfl, setB_s _ _ _ rfl, rfl, rfl, rfl, rfl, rfl, rfl, rfl, rfl, rfl, rfl, rfl⟩) hO _ hL ls (lv_sub hl [2, 3, 1, 0] rfl)
        have L30 : ∀ (fuel : Nat) (j : Nat), n - j < fuel → (j ≤ n) → ∀ (H : Heap), MW g o (uA S 5 (upd (setB (S.1 5) k (tellB (S.1 0) n (hasB sd))) k (bI (cB (S.1 0) k && allB (fun j => !cB (S.1 0) j || !eB (S.1 0) (hasB sd) j k) j)))) H → Off o s.heap H → ∀ (locs : List Loc), (∀ q ∈ locs, gLo g ≤ q.base) → ∀ (ls : Array Slot), lv_has ls 5 [(0, .ref o), (1, .int sd), (2, .int (nI v)), (3, .int (nI k)), (4, .int (nI j))] → W p l e (rmL 5 0 0) s m args below meth c H locs 0 0 (MQ below (Qcg (fun r H H1 => r = some (.int (nI (cnt (tellB (S.1 0) n (hasB sd)) n))) ∧ MW g o (uA S 5 (setB (S.1 5) n (tellB (S.1 0) n (hasB sd)))) H1 ∧ Off o H H1)) args s 0 0 (fre g)) (F0 m 30 ls []) := by
          intro fuel
          induction fuel with
          | zero => intro j hfu; exact absurd hfu (Nat.not_lt_zero _)
          | succ fuel ih30 =>
            intro j hfu hj H hW hO locs hL ls hl
            refine lv_iload hx hb dX5_tell_30 (lv_at hl 4 rfl) ?_
            refine lv_aload_n hx hb dX5_tell_32 rfl (lv_at hl 0 rfl) ?_
            refine mg_7 X rfl hW dX5_tell_33 ?_
            refine lv_sipush (v := nI 160) hx hb dX5_tell_36 (by decide) ?_
            refine m_ld (v := (nI n)) X hW 0 (by decide) rfl 160 rfl (by decide) (show (S.1 0) 160 = (nI n) from hN) dX5_tell_39 ?_
            refine n_icmp_ge (tgt := 89) X dX5_tell_40 (by decide) (by omega) (by omega) (fun c_40 => ?_) (fun c_40 => ?_)
            ·
              exact C89 _ (MW.cast hW ⟨rfl, rfl, rfl, rfl, rfl, (updC (by rw [show j = n by omega]; rfl)), rfl, rfl, rfl, rfl, rfl, rfl, rfl, rfl, rfl, rfl, rfl⟩) hO _ hL ls (lv_sub hl [0, 1, 2, 3] rfl)
            ·
              refine lv_aload_n hx hb dX5_tell_43 rfl (lv_at hl 0 rfl) ?_
              refine mg_25 X rfl hW dX5_tell_44 ?_
              refine lv_iload_n hx hb dX5_tell_47 rfl (lv_at hl 3 rfl) ?_
              refine m_zld (v := (bI (cB (S.1 0) k && allB (fun j => !cB (S.1 0) j || !eB (S.1 0) (hasB sd) j k) j))) X hW 5 (by decide) rfl k rfl (by show k < 41; omega) (show (upd (setB (S.1 5) k (tellB (S.1 0) n (hasB sd))) k (bI (cB (S.1 0) k && allB (fun j => !cB (S.1 0) j || !eB (S.1 0) (hasB sd) j k) j))) k = (bI (cB (S.1 0) k && allB (fun j => !cB (S.1 0) j || !eB (S.1 0) (hasB sd) j k) j)) from (upd_s _ _ _)) dX5_tell_48 ?_
              refine b_ifeq (tgt := 89) X dX5_tell_49 (by decide) (fun c_49 => ?_) (fun c_49 => ?_)
              ·
                exact C89 _ (MW.cast hW ⟨rfl, rfl, rfl, rfl, rfl, (updC (by rw [c_49]; exact (andB_f c_49 hj).symm)), rfl, rfl, rfl, rfl, rfl, rfl, rfl, rfl, rfl, rfl, rfl⟩) hO _ hL ls (lv_sub hl [0, 1, 2, 3] rfl)
              ·
                refine lv_aload_n hx hb dX5_tell_52 rfl (lv_at hl 0 rfl) ?_
                refine mg_25 X rfl hW dX5_tell_53 ?_
                refine lv_iload_n hx hb dX5_tell_56 rfl (lv_at hl 3 rfl) ?_
                refine lv_aload_n hx hb dX5_tell_57 rfl (lv_at hl 0 rfl) ?_
                refine lv_iload hx hb dX5_tell_58 (lv_at hl 4 rfl) ?_
                refine Cp.callV (v := .int (bI (cB (S.1 0) j))) (ct_X5_counts l g o j (uA S 5 (upd (setB (S.1 5) k (tellB (S.1 0) n (hasB sd))) k (bI (cB (S.1 0) k && allB (fun j => !cB (S.1 0) j || !eB (S.1 0) (hasB sd) j k) j)))) (by omega)) X hL hl vb_X5_counts q1939 (hW.2.1.recv hKV rfl) rfl rfl (Nat.le_of_ble_eq_true rfl) dX5_tell_60 ⟨Nat.le_of_ble_eq_true rfl, Nat.le_of_ble_eq_true rfl⟩ (by omega) (by omega) hW (fun locs hL => ?_)
                refine b_ifeq (tgt := 77) X dX5_tell_63 (by decide) (fun c_63 => ?_) (fun c_63 => ?_)
                ·
                  refine lv_iconst (v := nI 1) hx hb dX5_tell_77 (by decide) ?_
                  refine lv_goto (tgt := 82) hx hb dX5_tell_78 (by decide) ?_
                  refine m_zst X hL hW 5 (by decide) rfl k rfl (by show k < 41; omega) rfl dX5_tell_82 (fun H locs hL hW hO1 => ?_)
                  have hO := hO.trans hO1
                  have hW := MW.cast (S1 := uA S 5 (upd (upd (setB (S.1 5) k (tellB (S.1 0) n (hasB sd))) k (bI (cB (S.1 0) k && allB (fun j => !cB (S.1 0) j || !eB (S.1 0) (hasB sd) j k) j))) k (nI 1))) hW ⟨rfl, rfl, rfl, rfl, rfl, rfl, rfl, rfl, rfl, rfl, rfl, rfl, rfl, rfl, rfl, rfl, rfl⟩
                  refine lv_iinc (v := nI (j + 1)) (lv' := [(4, .int _), (0, .ref _), (1, .int _), (2, .int _), (3, .int _)]) hx hb dX5_tell_83 hl (k := 4) rfl (nI_iinc _ 1 rfl) (by decide) rfl (fun ls hl => ?_)
                  refine lv_goto (tgt := 30) hx hb dX5_tell_86 (by decide) ?_
                  exact ih30 _ (by omega) (by omega) _ (MW.cast hW ⟨rfl, rfl, rfl, rfl, rfl, (updB (by rw [allB_1, ← Bool.and_assoc, c_49]; simp [c_13, c_40, c_49, c_63] <;> rfl)), rfl, rfl, rfl, rfl, rfl, rfl, rfl, rfl, rfl, rfl, rfl⟩) hO _ hL ls (lv_sub hl [1, 2, 3, 4, 0] rfl)
                ·
                  refine lv_aload_n hx hb dX5_tell_66 rfl (lv_at hl 0 rfl) ?_
                  refine lv_iload hx hb dX5_tell_67 (lv_at hl 4 rfl) ?_
                  refine lv_iload_n hx hb dX5_tell_69 rfl (lv_at hl 3 rfl) ?_
                  refine lv_iload_n hx hb dX5_tell_70 rfl (lv_at hl 1 rfl) ?_
                  refine Cp.callV (v := .int (bI (eB (S.1 0) (hasB sd) j k))) (ct_X5_isBeyond l g o j k (uA S 5 (upd (setB (S.1 5) k (tellB (S.1 0) n (hasB sd))) k (bI (cB (S.1 0) k && allB (fun j => !cB (S.1 0) j || !eB (S.1 0) (hasB sd) j k) j)))) sd (by omega) (by omega)) X hL hl vb_X5_isBeyond q1943 (hW.2.1.recv hKV rfl) rfl rfl (Nat.le_of_ble_eq_true rfl) dX5_tell_71 ⟨Nat.le_of_ble_eq_true rfl, Nat.le_of_ble_eq_true rfl⟩ (by omega) (by omega) hW (fun locs hL => ?_)
                  refine b_ifne (tgt := 81) X dX5_tell_74 (by decide) (fun c_74 => ?_) (fun c_74 => ?_)
                  ·
                    refine lv_iconst (v := nI 0) hx hb dX5_tell_81 (by decide) ?_
                    refine m_zst X hL hW 5 (by decide) rfl k rfl (by show k < 41; omega) rfl dX5_tell_82 (fun H locs hL hW hO1 => ?_)
                    have hO := hO.trans hO1
                    have hW := MW.cast (S1 := uA S 5 (upd (upd (setB (S.1 5) k (tellB (S.1 0) n (hasB sd))) k (bI (cB (S.1 0) k && allB (fun j => !cB (S.1 0) j || !eB (S.1 0) (hasB sd) j k) j))) k (nI 0))) hW ⟨rfl, rfl, rfl, rfl, rfl, rfl, rfl, rfl, rfl, rfl, rfl, rfl, rfl, rfl, rfl, rfl, rfl⟩
                    refine lv_iinc (v := nI (j + 1)) (lv' := [(4, .int _), (0, .ref _), (1, .int _), (2, .int _), (3, .int _)]) hx hb dX5_tell_83 hl (k := 4) rfl (nI_iinc _ 1 rfl) (by decide) rfl (fun ls hl => ?_)
                    refine lv_goto (tgt := 30) hx hb dX5_tell_86 (by decide) ?_
                    exact ih30 _ (by omega) (by omega) _ (MW.cast hW ⟨rfl, rfl, rfl, rfl, rfl, (updB (by rw [allB_1, ← Bool.and_assoc, c_49]; simp [c_13, c_40, c_49, c_63, c_74] <;> rfl)), rfl, rfl, rfl, rfl, rfl, rfl, rfl, rfl, rfl, rfl, rfl⟩) hO _ hL ls (lv_sub hl [1, 2, 3, 4, 0] rfl)
                  ·
                    refine lv_iconst (v := nI 1) hx hb dX5_tell_77 (by decide) ?_
                    refine lv_goto (tgt := 82) hx hb dX5_tell_78 (by decide) ?_
                    refine m_zst X hL hW 5 (by decide) rfl k rfl (by show k < 41; omega) rfl dX5_tell_82 (fun H locs hL hW hO1 => ?_)
                    have hO := hO.trans hO1
                    have hW := MW.cast (S1 := uA S 5 (upd (upd (setB (S.1 5) k (tellB (S.1 0) n (hasB sd))) k (bI (cB (S.1 0) k && allB (fun j => !cB (S.1 0) j || !eB (S.1 0) (hasB sd) j k) j))) k (nI 1))) hW ⟨rfl, rfl, rfl, rfl, rfl, rfl, rfl, rfl, rfl, rfl, rfl, rfl, rfl, rfl, rfl, rfl, rfl⟩
                    refine lv_iinc (v := nI (j + 1)) (lv' := [(4, .int _), (0, .ref _), (1, .int _), (2, .int _), (3, .int _)]) hx hb dX5_tell_83 hl (k := 4) rfl (nI_iinc _ 1 rfl) (by decide) rfl (fun ls hl => ?_)
                    refine lv_goto (tgt := 30) hx hb dX5_tell_86 (by decide) ?_
                    exact ih30 _ (by omega) (by omega) _ (MW.cast hW ⟨rfl, rfl, rfl, rfl, rfl, (updB (by rw [allB_1, ← Bool.and_assoc, c_49]; simp [c_13, c_40, c_49, c_63, c_74] <;> rfl)), rfl, rfl, rfl, rfl, rfl, rfl, rfl, rfl, rfl, rfl, rfl⟩) hO _ hL ls (lv_sub hl [1, 2, 3, 4, 0] rfl)
        exact L30 (n + 1) 0 (by omega) (by omega) _ (MW.cast hW ⟨rfl, rfl, rfl, rfl, rfl, (updC (by rw [allB_0, Bool.and_true])), rfl, rfl, rfl, rfl, rfl, rfl, rfl, rfl, rfl, rfl, rfl⟩) hO _ hL ls (lv_sub hl [1, 2, 3, 4, 0] rfl)
  exact L4 (n + 1) 0 0 (by omega) rfl (by omega) _ (MW.cast hW ⟨rfl, rfl, rfl, rfl, rfl, (setB_0 (S.1 5) (tellB (S.1 0) n (hasB sd))).symm, rfl, rfl, rfl, rfl, rfl, rfl, rfl, rfl, rfl, rfl, rfl⟩) hO _ hL ls (lv_sub hl [2, 3, 1, 0] rfl)
theorem vb_X5_tell : VB yX5_tell cX5_tell 5 (some .int) 1 := ⟨q1937, qs61, q111, q1938, ⟨by decide, by decide, by decide +kernel⟩⟩

set_option maxRecDepth 100000 in
set_option maxHeartbeats 4000000 in
theorem ct_X5_score (l : Launch) (g : GT) (o i : Nat) (S : MS) (hi : i < 40) : Ct l g yX5_score cX5_score 4 (some .int) 3 0 0 [.ref o, .int (nI i)] (MW g o S) (fun r H H1 => r = some (.int (scoI (S.1 0) i)) ∧ H1 = H) := by
  refine Ct.of (by decide) (Nat.le_of_ble_eq_true rfl) ?_
  intro p e s m args below meth c X hP ls hl
  have hx := X.1
  have hb := X.2.1
  have hKV := X.2.2.2.2.2.2.2.1.1
  have hL : ∀ q ∈ ([] : List Loc), gLo g ≤ q.base := fun _ h => by cases h
  have hl : lv_has ls 4 [(0, .ref o), (1, .int (nI i))] := hl
  have hW : MW g o S s.heap := hP
  have hO : Off o s.heap s.heap := Off.rfl'
  refine lv_iconst (v := nI 0) hx hb dX5_score_0 (by decide) ?_
  refine lv_istore_n (lv' := [(2, .int _), (0, .ref _), (1, .int _)]) hx hb dX5_score_1 rfl hl (by decide) rfl (fun ls hl => ?_)
  refine lv_iconst (v := nI 0) hx hb dX5_score_2 (by decide) ?_
  refine lv_istore_n (lv' := [(3, .int _), (2, .int _), (0, .ref _), (1, .int _)]) hx hb dX5_score_3 rfl hl (by decide) rfl (fun ls hl => ?_)
  have L4 : ∀ (fuel : Nat) (v : Int32) (k : Nat), 4 - k < fuel → (v = scoN (mw (S.1 0)) (mwe (S.1 0)) (mv (S.1 0) i) k) → (k ≤ 4) → ∀ (locs : List Loc), (∀ q ∈ locs, gLo g ≤ q.base) → ∀ (ls : Array Slot), lv_has ls 4 [(0, .ref o), (1, .int (nI i)), (2, .int v), (3, .int (nI k))] → W p l e (rmL 3 0 0) s m args below meth c s.heap locs 0 0 (MQ below (Qcg (fun r H H1 => r = some (.int (scoI (S.1 0) i)) ∧ H1 = H)) args s 0 0 (fre g)) (F0 m 4 ls []) := by
    intro fuel
    induction fuel with
    | zero => intro v k hfu; exact absurd hfu (Nat.not_lt_zero _)
    | succ fuel ih4 =>
      intro v k hfu hv hk  locs hL ls hl
      refine lv_iload_n hx hb dX5_score_4 rfl (lv_at hl 3 rfl) ?_
      refine lv_iconst (v := nI 4) hx hb dX5_score_5 (by decide) ?_
      refine n_icmp_ge (tgt := 47) X dX5_score_6 (by decide) (by omega) (by omega) (fun c_6 => ?_) (fun c_6 => ?_)
      ·
        refine lv_iload_n hx hb dX5_score_47 rfl (lv_at hl 2 rfl) ?_
        exact r_iret X hL rfl rfl dX5_score_48 (by omega) (by omega) ⟨v_i (by rw [hv, show k = 4 by omega]; rfl), rfl⟩
      ·
        refine lv_iload_n hx hb dX5_score_9 rfl (lv_at hl 2 rfl) ?_
        refine lv_aload_n hx hb dX5_score_10 rfl (lv_at hl 0 rfl) ?_
        refine lv_iload_n hx hb dX5_score_11 rfl (lv_at hl 3 rfl) ?_
        refine Cp.callV (v := .int (bI (matB (mw (S.1 0)) k))) (ct_X5_matters l g o k S (by omega)) X hL hl vb_X5_matters q1931 (hW.2.1.recv hKV rfl) rfl rfl (Nat.le_of_ble_eq_true rfl) dX5_score_12 ⟨Nat.le_of_ble_eq_true rfl, Nat.le_of_ble_eq_true rfl⟩ (by omega) (by omega) hW (fun locs hL => ?_)
        refine b_ifeq (tgt := 38) X dX5_score_15 (by decide) (fun c_15 => ?_) (fun c_15 => ?_)
        ·
          refine lv_iconst (v := nI 0) hx hb dX5_score_38 (by decide) ?_
          refine lv_iadd hx hb dX5_score_39 ?_
          refine lv_istore_n (lv' := [(2, .int _), (0, .ref _), (1, .int _), (3, .int _)]) hx hb dX5_score_40 rfl hl (by decide) rfl (fun ls hl => ?_)
          refine lv_iinc (v := nI (k + 1)) (lv' := [(3, .int _), (2, .int _), (0, .ref _), (1, .int _)]) hx hb dX5_score_41 hl (k := 3) rfl (nI_iinc _ 1 rfl) (by decide) rfl (fun ls hl => ?_)
          refine lv_goto (tgt := 4) hx hb dX5_score_44 (by decide) ?_
          exact ih4 _ _ (by omega) (by rw [hv]; simp [scoN, c_15, mwe]) (by omega) _ hL ls (lv_sub hl [2, 3, 1, 0] rfl)
        ·
          refine lv_aload_n hx hb dX5_score_18 rfl (lv_at hl 0 rfl) ?_
          refine lv_iload_n hx hb dX5_score_19 rfl (lv_at hl 1 rfl) ?_
          refine lv_iload_n hx hb dX5_score_20 rfl (lv_at hl 3 rfl) ?_
          refine Cp.callV (v := .int (goodI (mw (S.1 0)) (mv (S.1 0) i) k)) (ct_X5_good l g o i k S (by omega) (by omega)) X hL hl vb_X5_good q1951 (hW.2.1.recv hKV rfl) rfl rfl (Nat.le_of_ble_eq_true rfl) dX5_score_21 ⟨Nat.le_of_ble_eq_true rfl, Nat.le_of_ble_eq_true rfl⟩ (by omega) (by omega) hW (fun locs hL => ?_)
          refine lv_aload_n hx hb dX5_score_24 rfl (lv_at hl 0 rfl) ?_
          refine mg_7 X rfl hW dX5_score_25 ?_
          refine lv_sipush (v := nI 173) hx hb dX5_score_28 (by decide) ?_
          refine lv_iload_n hx hb dX5_score_31 rfl (lv_at hl 3 rfl) ?_
          refine n_iadd X dX5_score_32 ?_
          refine m_ld (v := ((S.1 0) (173 + k))) X hW 0 (by decide) rfl (173 + k) rfl (by show 173 + k < 179; omega) rfl dX5_score_33 ?_
          refine lv_imul hx hb dX5_score_34 ?_
          refine lv_goto (tgt := 39) hx hb dX5_score_35 (by decide) ?_
          refine lv_iadd hx hb dX5_score_39 ?_
          refine lv_istore_n (lv' := [(2, .int _), (0, .ref _), (1, .int _), (3, .int _)]) hx hb dX5_score_40 rfl hl (by decide) rfl (fun ls hl => ?_)
          refine lv_iinc (v := nI (k + 1)) (lv' := [(3, .int _), (2, .int _), (0, .ref _), (1, .int _)]) hx hb dX5_score_41 hl (k := 3) rfl (nI_iinc _ 1 rfl) (by decide) rfl (fun ls hl => ?_)
          refine lv_goto (tgt := 4) hx hb dX5_score_44 (by decide) ?_
          exact ih4 _ _ (by omega) (by rw [hv]; simp [scoN, c_15, mwe]) (by omega) _ hL ls (lv_sub hl [2, 3, 1, 0] rfl)
  exact L4 5 (nI 0) 0 (by omega) rfl (by omega) _ hL ls (lv_sub hl [2, 3, 1, 0] rfl)
theorem vb_X5_score : VB yX5_score cX5_score 4 (some .int) 1 := ⟨q2234, qs91, q111, q2235, ⟨by decide, by decide, by decide +kernel⟩⟩

set_option maxRecDepth 100000 in
set_option maxHeartbeats 4000000 in
theorem ct_X5_among (l : Launch) (g : GT) (k : Nat) (a b q t : Int32) (hk : k < 4) : Ct l g yX5_among cX5_among 5 (some .int) 1 0 0 [.int (nI k), .int a, .int b, .int q, .int t] (fun _ => True) (fun r H H1 => r = some (.int (amI a b q t k)) ∧ H1 = H) := by
  refine Ct.of (by decide) (Nat.le_of_ble_eq_true rfl) ?_
  intro p e s m args below meth c X hP ls hl
  have hx := X.1
  have hb := X.2.1
  have hKV := X.2.2.2.2.2.2.2.1.1
  have hL : ∀ q ∈ ([] : List Loc), gLo g ≤ q.base := fun _ h => by cases h
  have hl : lv_has ls 5 [(0, .int (nI k)), (1, .int a), (2, .int b), (3, .int q), (4, .int t)] := hl
  refine lv_iload_n hx hb dX5_among_0 rfl (lv_at hl 0 rfl) ?_
  refine n_ifne (tgt := 8) X dX5_among_1 (by decide) (by omega) (fun c_1 => ?_) (fun c_1 => ?_)
  ·
    refine lv_iload_n hx hb dX5_among_8 rfl (lv_at hl 0 rfl) ?_
    refine lv_iconst (v := nI 1) hx hb dX5_among_9 (by decide) ?_
    refine n_icmp_ne (tgt := 17) X dX5_among_10 (by decide) (by omega) (by omega) (fun c_10 => ?_) (fun c_10 => ?_)
    ·
      refine lv_iload_n hx hb dX5_among_17 rfl (lv_at hl 0 rfl) ?_
      refine lv_iconst (v := nI 2) hx hb dX5_among_18 (by decide) ?_
      refine n_icmp_ne (tgt := 26) X dX5_among_19 (by decide) (by omega) (by omega) (fun c_19 => ?_) (fun c_19 => ?_)
      ·
        refine lv_iload hx hb dX5_among_26 (lv_at hl 4 rfl) ?_
        exact r_iret X hL rfl rfl dX5_among_28 (by omega) (by omega) ⟨v_i (by simp [amI, c_1, c_10, c_19]), rfl⟩
      ·
        refine lv_iload_n hx hb dX5_among_22 rfl (lv_at hl 3 rfl) ?_
        refine lv_goto (tgt := 28) hx hb dX5_among_23 (by decide) ?_
        exact r_iret X hL rfl rfl dX5_among_28 (by omega) (by omega) ⟨v_i (by simp [amI, c_1, c_10, c_19]), rfl⟩
    ·
      refine lv_iload_n hx hb dX5_among_13 rfl (lv_at hl 2 rfl) ?_
      refine lv_goto (tgt := 28) hx hb dX5_among_14 (by decide) ?_
      exact r_iret X hL rfl rfl dX5_among_28 (by omega) (by omega) ⟨v_i (by simp [amI, c_1, c_10]), rfl⟩
  ·
    refine lv_iload_n hx hb dX5_among_4 rfl (lv_at hl 1 rfl) ?_
    refine lv_goto (tgt := 28) hx hb dX5_among_5 (by decide) ?_
    exact r_iret X hL rfl rfl dX5_among_28 (by omega) (by omega) ⟨v_i (by simp [amI, c_1]), rfl⟩
theorem sb_X5_among : SB yX5_among cX5_among 5 (some .int) 5 := ⟨q2181, q111, q2182, ⟨by decide, by decide, by decide +kernel⟩⟩

set_option maxRecDepth 100000 in
set_option maxHeartbeats 4000000 in
theorem ct_X5_goodOf (l : Launch) (g : GT) (o q : Nat) (S : MS) (v : Int32) (hq : q < 4) : Ct l g yX5_goodOf cX5_goodOf 3 (some .int) 1 0 0 [.ref o, .int v, .int (nI q)] (MW g o S) (fun r H H1 => r = some (.int (goodI (mw (S.1 0)) (fun _ => v) q)) ∧ H1 = H) := by
  refine Ct.of (by decide) (Nat.le_of_ble_eq_true rfl) ?_
  intro p e s m args below meth c X hP ls hl
  have hx := X.1
  have hb := X.2.1
  have hKV := X.2.2.2.2.2.2.2.1.1
  have hL : ∀ q ∈ ([] : List Loc), gLo g ≤ q.base := fun _ h => by cases h
  have hl : lv_has ls 3 [(0, .ref o), (1, .int v), (2, .int (nI q))] := hl
  have hW : MW g o S s.heap := hP
  have hO : Off o s.heap s.heap := Off.rfl'
  refine lv_aload_n hx hb dX5_goodOf_0 rfl (lv_at hl 0 rfl) ?_
  refine mg_7 X rfl hW dX5_goodOf_1 ?_
  refine lv_sipush (v := nI 161) hx hb dX5_goodOf_4 (by decide) ?_
  refine lv_iload_n hx hb dX5_goodOf_7 rfl (lv_at hl 2 rfl) ?_
  refine n_iadd X dX5_goodOf_8 ?_
  refine m_ld (v := ((S.1 0) (161 + q))) X hW 0 (by decide) rfl (161 + q) rfl (by show 161 + q < 179; omega) rfl dX5_goodOf_9 ?_
  refine lv_iconst (v := nI 1) hx hb dX5_goodOf_10 (by decide) ?_
  refine lv_icmp_ne (tgt := 18) hx hb dX5_goodOf_11 (by decide) (fun c_11 => ?_) (fun c_11 => ?_)
  ·
    refine lv_bipush (v := nI 99) hx hb dX5_goodOf_18 (by decide) ?_
    refine lv_iload_n hx hb dX5_goodOf_20 rfl (lv_at hl 1 rfl) ?_
    refine lv_isub hx hb dX5_goodOf_21 ?_
    exact r_iret X hL rfl rfl dX5_goodOf_22 (by omega) (by omega) ⟨v_i (by simp [goodI, mw, c_11]), rfl⟩
  ·
    refine lv_iload_n hx hb dX5_goodOf_14 rfl (lv_at hl 1 rfl) ?_
    refine lv_goto (tgt := 22) hx hb dX5_goodOf_15 (by decide) ?_
    exact r_iret X hL rfl rfl dX5_goodOf_22 (by omega) (by omega) ⟨v_i (by simp [goodI, mw, c_11]), rfl⟩
theorem vb_X5_goodOf : VB yX5_goodOf cX5_goodOf 3 (some .int) 2 := ⟨q2189, qs87, q111, q2190, ⟨by decide, by decide, by decide +kernel⟩⟩
