/-! the model's walks, eleventh part: reading -/
def seeB (f : Nat → Int32) (n i a b : Nat) : Bool := decide (i < n) && inB (f i) (nI a) (nI b)
/-- past a sign, if it is there -/
def pS (f : Nat → Int32) (n i a b : Nat) : Bool × Nat := (seeB f n i a b, if seeB f n i a b then i + 1 else i)
def thB (x : Bool × Nat) (k : Nat → Bool × Nat) : Bool × Nat := if x.1 then k x.2 else (false, x.2)
def ifP (x : Bool × Nat) (k1 k2 : Nat → Bool × Nat) : Bool × Nat := if x.1 then k1 x.2 else k2 x.2
def two9 (f : Nat → Int32) (k t : Nat) : Bool := decide (nI 10 * (f (k - 1) - nI 48) + f k - nI 48 ≤ nI t)
def pnS (f : Nat → Int32) (n i t : Nat) : Bool × Nat := ifP (pS f n i 48 48) (fun j => (true, j)) (fun j => thB (pS f n j 49 57) (fun k => (true, if seeB f n k 48 57 && two9 f k t then k + 1 else k)))
def dgI (f : Nat → Int32) (n i : Nat) : Int32 := if i < n then f i - nI 48 else (-1)
def goB (d e t : Int32) : Bool := decide (0 < d) && (inB e (nI 0) (nI 9) && decide (t ≤ nI 10 * d + e))
def pfS (f : Nat → Int32) (n i : Nat) (t : Int32) : Bool × Nat := if inB (dgI f n i) (nI 0) (nI 9) && (decide (t ≤ dgI f n i) || (decide (dgI f n i ≠ 0) && decide (t ≤ nI 10 * dgI f n i + nI 9))) then (goB (dgI f n i) (dgI f n (i + 1)) t || decide (t ≤ dgI f n i), if goB (dgI f n i) (dgI f n (i + 1)) t then i + 1 + 1 else i + 1) else (false, i)
/-- the number of d digits from a on -/
def numI (f : Nat → Int32) (a : Nat) : Nat → Int32
  | 0 => nI 0
  | d + 1 => nI 10 * numI f a d + f (a + d) - nI 48
def pbS (f : Nat → Int32) (n i : Nat) : Bool × Nat := thB (pS f n i 48 51) (fun j => thB (pS f n j 61 61) (fun k => thB (pnS f n k 99) (fun m => thB (pS f n m 45 45) (fun z => pfS f n z (numI f k (m - k))))))
def paS (f : Nat → Int32) (n i : Nat) : Bool × Nat := thB (pnS f n i 99) (fun j => thB (pS f n j 44 44) (fun j => thB (pnS f n j 99) (fun j => thB (pS f n j 44 44) (fun j => thB (pnS f n j 99) (fun j => thB (pS f n j 44 44) (fun j => pnS f n j 99))))))
def pwS (f : Nat → Int32) (n i : Nat) : Bool × Nat := thB (pS f n i 48 51) (fun j => ifP (pS f n j 45 45) (fun k => (true, k)) (fun k => ifP (pS f n k 43 43) (fun k => (true, k)) (fun k => pS f n k 48 48)))
def ptS (f : Nat → Int32) (n i : Nat) : Bool × Nat := ifP (pS f n i 97 97) (paS f n) (fun j => ifP (pS f n j 114 114) (fun k => pnS f n k 39) (fun k => ifP (pS f n k 119 119) (pwS f n) (fun k => thB (pS f n k 98 98) (pbS f n))))
/-- the place of the first fault, or -1; where the reading ends -/
def fauG (f : Nat → Int32) (n : Nat) : Nat → Nat → Int32 × Nat
  | 0, i => ((-1), i)
  | k + 1, i => if (ptS f n i).1 then (if (ptS f n i).2 = n then ((-1), (ptS f n i).2) else if (pS f n (ptS f n i).2 59 59).1 then fauG f n k (pS f n (ptS f n i).2 59 59).2 else (nI (pS f n (ptS f n i).2 59 59).2, (pS f n (ptS f n i).2 59 59).2)) else (nI (ptS f n i).2, (ptS f n i).2)
theorem see_lt {f : Nat → Int32} {n i a b : Nat} (h : seeB f n i a b = true) : i < n := by
  unfold seeB at h; rw [Bool.and_eq_true, decide_eq_true_eq] at h; exact h.1
theorem pS_t {f : Nat → Int32} {n i a b : Nat} (h : (pS f n i a b).1 = true) : (pS f n i a b).2 = i + 1 ∧ i < n := ⟨if_pos h, see_lt h⟩
theorem pS_f {f : Nat → Int32} {n i a b : Nat} (h : (pS f n i a b).1 = false) : (pS f n i a b).2 = i := if_neg (by rw [show seeB f n i a b = false from h]; decide)
theorem pS_b {f : Nat → Int32} {n i a b : Nat} (h : i ≤ n) : i ≤ (pS f n i a b).2 ∧ (pS f n i a b).2 ≤ n := by
  cases e : (pS f n i a b).1
  · rw [pS_f e]; omega
  · have := pS_t e; omega
theorem pnS_b {f : Nat → Int32} {n i t : Nat} (h : i ≤ n) : i ≤ (pnS f n i t).2 ∧ (pnS f n i t).2 ≤ n := by
  unfold pnS ifP thB
  have h1 := pS_b (f := f) (a := 48) (b := 48) h
  split
  · exact h1
  · have h2 := pS_b (f := f) (a := 49) (b := 57) h1.2
    dsimp only
    split
    · dsimp only
      split
      · rename_i q
        rw [Bool.and_eq_true] at q
        have := see_lt q.1; omega
      · omega
    · dsimp only
      omega
theorem dg_lt {f : Nat → Int32} {n i : Nat} (h : inB (dgI f n i) (nI 0) (nI 9) = true) : i < n := by
  rcases Nat.lt_or_ge i n with q | q
  · exact q
  · rw [show dgI f n i = (-1) from if_neg (by omega)] at h
    exact absurd h (by decide)
theorem go_lt {f : Nat → Int32} {n i : Nat} {d t : Int32} (h : goB d (dgI f n i) t = true) : i < n := by
  unfold goB at h
  rw [Bool.and_eq_true, Bool.and_eq_true] at h
  exact dg_lt h.2.1
theorem pfS_b {f : Nat → Int32} {n i : Nat} {t : Int32} (h : i ≤ n) : i ≤ (pfS f n i t).2 ∧ (pfS f n i t).2 ≤ n := by
  unfold pfS
  split
  · rename_i q
    rw [Bool.and_eq_true] at q
    have := dg_lt q.1
    dsimp only
    split
    · rename_i g
      have := go_lt g; omega
    · omega
  · exact ⟨Nat.le_refl _, h⟩
theorem thB_b {x : Bool × Nat} {k : Nat → Bool × Nat} {i n : Nat} (h : i ≤ x.2 ∧ x.2 ≤ n) (hk : ∀ j, j ≤ n → j ≤ (k j).2 ∧ (k j).2 ≤ n) : i ≤ (thB x k).2 ∧ (thB x k).2 ≤ n := by
  unfold thB
  split
  · have := hk x.2 h.2; omega
  · exact h
theorem ifP_b {x : Bool × Nat} {k1 k2 : Nat → Bool × Nat} {i n : Nat} (h : i ≤ x.2 ∧ x.2 ≤ n) (h1 : ∀ j, j ≤ n → j ≤ (k1 j).2 ∧ (k1 j).2 ≤ n) (h2 : ∀ j, j ≤ n → j ≤ (k2 j).2 ∧ (k2 j).2 ≤ n) : i ≤ (ifP x k1 k2).2 ∧ (ifP x k1 k2).2 ≤ n := by
  unfold ifP
  split
  · have := h1 x.2 h.2; omega
  · have := h2 x.2 h.2; omega
theorem pbS_b {f : Nat → Int32} {n i : Nat} (h : i ≤ n) : i ≤ (pbS f n i).2 ∧ (pbS f n i).2 ≤ n :=
  thB_b (pS_b h) fun _ h => thB_b (pS_b h) fun _ h => thB_b (pnS_b h) fun _ h => thB_b (pS_b h) fun _ h => pfS_b h
theorem paS_b {f : Nat → Int32} {n i : Nat} (h : i ≤ n) : i ≤ (paS f n i).2 ∧ (paS f n i).2 ≤ n :=
  thB_b (pnS_b h) fun _ h => thB_b (pS_b h) fun _ h => thB_b (pnS_b h) fun _ h => thB_b (pS_b h) fun _ h => thB_b (pnS_b h) fun _ h => thB_b (pS_b h) fun _ h => pnS_b h
theorem pwS_b {f : Nat → Int32} {n i : Nat} (h : i ≤ n) : i ≤ (pwS f n i).2 ∧ (pwS f n i).2 ≤ n :=
  thB_b (pS_b h) fun _ h => ifP_b (pS_b h) (fun _ h => ⟨Nat.le_refl _, h⟩) fun _ h => ifP_b (pS_b h) (fun _ h => ⟨Nat.le_refl _, h⟩) fun _ h => pS_b h
theorem ptS_b {f : Nat → Int32} {n i : Nat} (h : i ≤ n) : i ≤ (ptS f n i).2 ∧ (ptS f n i).2 ≤ n :=
  ifP_b (pS_b h) (fun _ h => paS_b h) fun _ h => ifP_b (pS_b h) (fun _ h => pnS_b h) fun _ h => ifP_b (pS_b h) (fun _ h => pwS_b h) fun _ h => thB_b (pS_b h) fun _ h => pbS_b h
/-- a part that is whole goes on -/
theorem ptS_lt {f : Nat → Int32} {n i : Nat} (hi : i ≤ n) (h : (ptS f n i).1 = true) : i < (ptS f n i).2 := by
  have step : ∀ (a b : Nat) (k : Nat → Bool × Nat), (∀ j, j ≤ n → j ≤ (k j).2 ∧ (k j).2 ≤ n) → (pS f n i a b).1 = true → i < (k (pS f n i a b).2).2 := fun a b k hk q => by
    have := pS_t q
    have := hk (pS f n i a b).2 (by omega)
    omega
  unfold ptS ifP at h ⊢
  split
  · rename_i q
    exact step 97 97 (paS f n) (fun _ h => paS_b h) q
  · rename_i q
    have e := pS_f (Bool.eq_false_iff.mpr q)
    rw [if_neg q] at h
    simp only [e] at h ⊢
    split
    · rename_i q
      exact step 114 114 (fun k => pnS f n k 39) (fun _ h => pnS_b h) q
    · rename_i q
      have e := pS_f (Bool.eq_false_iff.mpr q)
      rw [if_neg q] at h
      simp only [e] at h ⊢
      split
      · rename_i q
        exact step 119 119 (pwS f n) (fun _ h => pwS_b h) q
      · rename_i q
        have e := pS_f (Bool.eq_false_iff.mpr q)
        rw [if_neg q] at h
        simp only [e] at h ⊢
        unfold thB at h ⊢
        split
        · rename_i q
          exact step 98 98 (pbS f n) (fun _ h => pbS_b h) q
        · rename_i q
          rw [if_neg q] at h
          cases h

set_option maxRecDepth 100000 in
set_option maxHeartbeats 4000000 in
theorem ct_X5_coveredGreedily (l : Launch) (g : GT) (o n : Nat) (S : MS) (v : Int32) (hN : S.1 0 160 = nI n) (hn : n ≤ 40) : Ct l g yX5_coveredGreedily cX5_coveredGreedily 2 (some .int) 8 0 0 [.ref o, .int v] (MW g o S) (fun r H H1 => ∃ S1, AP S1 (s_bad S (!inB v (nI 1) (nI 5)) (nI (grS (S.1 0) n (tellB (S.1 0) n (hasB (matI (mw (S.1 0))))) (min (cnt (tellB (S.1 0) n (hasB (matI (mw (S.1 0))))) n) v.toNatClampNeg)).2.2)) r ∧ MW g o S1 H1 ∧ Off o H H1) := by
  refine Ct.of (by decide) (Nat.le_of_ble_eq_true rfl) ?_
  intro p e s m args below meth c X hP ls hl
  have hx := X.1
  have hb := X.2.1
  have hKV := X.2.2.2.2.2.2.2.1.1
  have hL : ∀ q ∈ ([] : List Loc), gLo g ≤ q.base := fun _ h => by cases h
  have hl : lv_has ls 2 [(0, .ref o), (1, .int v)] := hl
  have hW : MW g o S s.heap := hP
  have hO : Off o s.heap s.heap := Off.rfl'
  refine lv_aload_n hx hb dX5_coveredGreedily_0 rfl (lv_at hl 0 rfl) ?_
  refine lv_iconst (v := nI 0) hx hb dX5_coveredGreedily_1 (by decide) ?_
  refine mp_38 X rfl hL hW dX5_coveredGreedily_2 (fun H locs hL hW hO1 => ?_)
  have hO := hO.trans hO1
  have hW := MW.cast (S1 := uS S 15 (nI 0)) hW ⟨rfl, rfl, rfl, rfl, rfl, rfl, rfl, rfl, rfl, rfl, rfl, rfl, rfl, rfl, rfl, rfl, rfl⟩
  refine lv_iload_n hx hb dX5_coveredGreedily_5 rfl (lv_at hl 1 rfl) ?_
  refine lv_iconst (v := nI 1) hx hb dX5_coveredGreedily_6 (by decide) ?_
  refine lv_iconst (v := nI 5) hx hb dX5_coveredGreedily_7 (by decide) ?_
  refine Cp.callS (v := .int (bI (inB v (nI 1) (nI 5)))) (ct_X5_in l g v (nI 1) (nI 5) ) X hL hl sb_X5_in q1885 rfl rfl (Nat.le_of_ble_eq_true rfl) dX5_coveredGreedily_8 ⟨Nat.le_of_ble_eq_true rfl, Nat.le_of_ble_eq_true rfl⟩ (by omega) (by omega) trivial (fun locs hL => ?_)
  refine b_ifne (tgt := 22) X dX5_coveredGreedily_11 (by decide) (fun c_11 => ?_) (fun c_11 => ?_)
  ·
    obtain ⟨hvc, hv1, hv5⟩ := inB_nat (by omega) (by omega) c_11
    refine lv_aload_n hx hb dX5_coveredGreedily_22 rfl (lv_at hl 0 rfl) ?_
    refine lv_iload_n hx hb dX5_coveredGreedily_23 rfl (lv_at hl 1 rfl) ?_
    refine W.stk (w := (nI v.toNatClampNeg)) hvc ?_
    refine Ct.callV (ct_X5_cover l g o n v.toNatClampNeg (uS S 15 (nI 0)) hN hn (by omega)) X hL hl vb_X5_cover q2212 (hW.2.1.recv hKV rfl) rfl rfl (Nat.le_of_ble_eq_true rfl) dX5_coveredGreedily_24 ⟨Nat.le_of_ble_eq_true rfl, Nat.le_of_ble_eq_true rfl⟩ (by omega) (by omega) hW (fun r H1 locs hL hp => ?_)
    obtain ⟨rfl, hW, hO1⟩ := hp
    have hO := hO.trans hO1
    have hW := MW.cast (S1 := uS (uS (uA (uA (uA S 5 (setB (S.1 5) n (grS (S.1 0) n (tellB (S.1 0) n (hasB (matI (mw (S.1 0))))) (min (cnt (tellB (S.1 0) n (hasB (matI (mw (S.1 0))))) n) v.toNatClampNeg)).1)) 6 (setB (S.1 6) n (grS (S.1 0) n (tellB (S.1 0) n (hasB (matI (mw (S.1 0))))) (min (cnt (tellB (S.1 0) n (hasB (matI (mw (S.1 0))))) n) v.toNatClampNeg)).2.1)) 8 (setI (S.1 8) (min (cnt (tellB (S.1 0) n (hasB (matI (mw (S.1 0))))) n) v.toNatClampNeg) (fun j => nI (gBs (S.1 0) n (tellB (S.1 0) n (hasB (matI (mw (S.1 0))))) j)))) 9 (nI (min (cnt (tellB (S.1 0) n (hasB (matI (mw (S.1 0))))) n) v.toNatClampNeg))) 15 (nI 0)) hW ⟨rfl, rfl, rfl, rfl, rfl, rfl, rfl, rfl, rfl, rfl, rfl, rfl, rfl, rfl, rfl, rfl, rfl⟩
    refine W.stk (w := (nI ((grS (S.1 0) n (tellB (S.1 0) n (hasB (matI (mw (S.1 0))))) (min (cnt (tellB (S.1 0) n (hasB (matI (mw (S.1 0))))) n) v.toNatClampNeg)).2.2))) rfl ?_
    exact r_iret X hL rfl rfl dX5_coveredGreedily_27 (by omega) (by omega) ⟨uS (uS (uA (uA (uA S 5 (setB (S.1 5) n (grS (S.1 0) n (tellB (S.1 0) n (hasB (matI (mw (S.1 0))))) (min (cnt (tellB (S.1 0) n (hasB (matI (mw (S.1 0))))) n) v.toNatClampNeg)).1)) 6 (setB (S.1 6) n (grS (S.1 0) n (tellB (S.1 0) n (hasB (matI (mw (S.1 0))))) (min (cnt (tellB (S.1 0) n (hasB (matI (mw (S.1 0))))) n) v.toNatClampNeg)).2.1)) 8 (setI (S.1 8) (min (cnt (tellB (S.1 0) n (hasB (matI (mw (S.1 0))))) n) v.toNatClampNeg) (fun j => nI (gBs (S.1 0) n (tellB (S.1 0) n (hasB (matI (mw (S.1 0))))) j)))) 9 (nI (min (cnt (tellB (S.1 0) n (hasB (matI (mw (S.1 0))))) n) v.toNatClampNeg))) 15 (nI 0), AP.mk (t := 0) (v := some (.int (nI ((grS (S.1 0) n (tellB (S.1 0) n (hasB (matI (mw (S.1 0))))) (min (cnt (tellB (S.1 0) n (hasB (matI (mw (S.1 0))))) n) v.toNatClampNeg)).2.2)))) (X := S) (by simp [s_bad, x_, q_, vI, bI_T, bI_F, c_11]) ⟨rfl, rfl, rfl, rfl, rfl, rfl, rfl, rfl⟩ rfl rfl, hW, hO⟩
  ·
    refine lv_aload_n hx hb dX5_coveredGreedily_14 rfl (lv_at hl 0 rfl) ?_
    refine lv_iconst (v := nI 1) hx hb dX5_coveredGreedily_15 (by decide) ?_
    refine Ct.callV (ct_X5_fails l g o (uS S 15 (nI 0)) (nI 1) ) X hL hl vb_X5_fails q1904 (hW.2.1.recv hKV rfl) rfl rfl (Nat.le_of_ble_eq_true rfl) dX5_coveredGreedily_16 ⟨Nat.le_of_ble_eq_true rfl, Nat.le_of_ble_eq_true rfl⟩ (by omega) (by omega) hW (fun r H1 locs hL hp => ?_)
    obtain ⟨rfl, hW, hO1⟩ := hp
    have hO := hO.trans hO1
    have hW := MW.cast (S1 := uS S 15 (nI 1)) hW ⟨rfl, rfl, rfl, rfl, rfl, rfl, rfl, rfl, rfl, rfl, rfl, rfl, rfl, rfl, rfl, rfl, rfl⟩
    refine W.stk (w := (nI 0)) rfl ?_
    refine lv_goto (tgt := 27) hx hb dX5_coveredGreedily_19 (by decide) ?_
    exact r_iret X hL rfl rfl dX5_coveredGreedily_27 (by omega) (by omega) ⟨uS S 15 (nI 1), AP.mk (t := 1) (v := some (.int (nI 0))) (X := S) (by simp [s_bad, x_, q_, vI, bI_T, bI_F, c_11]) ⟨rfl, rfl, rfl, rfl, rfl, rfl, rfl, rfl⟩ rfl rfl, hW, hO⟩
theorem vb_X5_coveredGreedily : VB yX5_coveredGreedily cX5_coveredGreedily 2 (some .int) 1 := ⟨q2209, q2210, q111, q2211, ⟨by decide, by decide, by decide +kernel⟩⟩

set_option maxRecDepth 100000 in
set_option maxHeartbeats 4000000 in
theorem ct_X5_takenAt (l : Launch) (g : GT) (o n : Nat) (S : MS) (x : Int32) (hN : S.1 0 160 = nI n) (hn : n ≤ 40) : Ct l g yX5_takenAt cX5_takenAt 3 (some .int) 8 0 0 [.ref o, .int x] (MW g o S) (fun r H H1 => ∃ S1, AP S1 (s_taken S n x) r ∧ MW g o S1 H1 ∧ Off o H H1) := by
  refine Ct.of (by decide) (Nat.le_of_ble_eq_true rfl) ?_
  intro p e s m args below meth c X hP ls hl
  have hx := X.1
  have hb := X.2.1
  have hKV := X.2.2.2.2.2.2.2.1.1
  have hL : ∀ q ∈ ([] : List Loc), gLo g ≤ q.base := fun _ h => by cases h
  have hl : lv_has ls 3 [(0, .ref o), (1, .int x)] := hl
  have hW : MW g o S s.heap := hP
  have hO : Off o s.heap s.heap := Off.rfl'
  refine lv_aload_n hx hb dX5_takenAt_0 rfl (lv_at hl 0 rfl) ?_
  refine lv_iconst (v := nI 0) hx hb dX5_takenAt_1 (by decide) ?_
  refine mp_38 X rfl hL hW dX5_takenAt_2 (fun H locs hL hW hO1 => ?_)
  have hO := hO.trans hO1
  have hW := MW.cast (S1 := uS S 15 (nI 0)) hW ⟨rfl, rfl, rfl, rfl, rfl, rfl, rfl, rfl, rfl, rfl, rfl, rfl, rfl, rfl, rfl, rfl, rfl⟩
  refine lv_aload_n hx hb dX5_takenAt_5 rfl (lv_at hl 0 rfl) ?_
  refine lv_bipush (v := nI 40) hx hb dX5_takenAt_6 (by decide) ?_
  refine Ct.callV (ct_X5_cover l g o n 40 (uS S 15 (nI 0)) hN hn (by omega)) X hL hl vb_X5_cover q2212 (hW.2.1.recv hKV rfl) rfl rfl (Nat.le_of_ble_eq_true rfl) dX5_takenAt_8 ⟨Nat.le_of_ble_eq_true rfl, Nat.le_of_ble_eq_true rfl⟩ (by omega) (by omega) hW (fun r H1 locs hL hp => ?_)
  obtain ⟨rfl, hW, hO1⟩ := hp
  have hO := hO.trans hO1
  have hW := MW.cast (S1 := uS (uS (uA (uA (uA S 5 (setB (S.1 5) n (grS (S.1 0) n (tellB (S.1 0) n (hasB (matI (mw (S.1 0))))) (min (cnt (tellB (S.1 0) n (hasB (matI (mw (S.1 0))))) n) 40)).1)) 6 (setB (S.1 6) n (grS (S.1 0) n (tellB (S.1 0) n (hasB (matI (mw (S.1 0))))) (min (cnt (tellB (S.1 0) n (hasB (matI (mw (S.1 0))))) n) 40)).2.1)) 8 (setI (S.1 8) (min (cnt (tellB (S.1 0) n (hasB (matI (mw (S.1 0))))) n) 40) (fun j => nI (gBs (S.1 0) n (tellB (S.1 0) n (hasB (matI (mw (S.1 0))))) j)))) 9 (nI (min (cnt (tellB (S.1 0) n (hasB (matI (mw (S.1 0))))) n) 40))) 15 (nI 0)) hW ⟨rfl, rfl, rfl, rfl, rfl, rfl, rfl, rfl, rfl, rfl, rfl, rfl, rfl, rfl, rfl, rfl, rfl⟩
  refine W.stk (w := (nI ((grS (S.1 0) n (tellB (S.1 0) n (hasB (matI (mw (S.1 0))))) (min (cnt (tellB (S.1 0) n (hasB (matI (mw (S.1 0))))) n) 40)).2.2))) rfl ?_
  refine lv_istore_n (lv' := [(2, .int _), (0, .ref _), (1, .int _)]) hx hb dX5_takenAt_11 rfl hl (by decide) rfl (fun ls hl => ?_)
  refine lv_iload_n hx hb dX5_takenAt_12 rfl (lv_at hl 2 rfl) ?_
  refine lv_iconst (v := nI 0) hx hb dX5_takenAt_13 (by decide) ?_
  refine lv_aload_n hx hb dX5_takenAt_14 rfl (lv_at hl 1 rfl) ?_
  refine mg_82 X rfl hW dX5_takenAt_15 (W.stk (w := (nI (min (cnt (tellB (S.1 0) n (hasB (matI (mw (S.1 0))))) n) 40))) rfl ?_)
  refine lv_iconst (v := nI 1) hx hb dX5_takenAt_18 (by decide) ?_
  refine lv_isub hx hb dX5_takenAt_19 ?_
  refine Cp.callS (v := .int (bI (inB x (nI 0) ((nI (min (cnt (tellB (S.1 0) n (hasB (matI (mw (S.1 0))))) n) 40)) - (nI 1))))) (ct_X5_in l g x (nI 0) ((nI (min (cnt (tellB (S.1 0) n (hasB (matI (mw (S.1 0))))) n) 40)) - (nI 1)) ) X hL hl sb_X5_in q1885 rfl rfl (Nat.le_of_ble_eq_true rfl) dX5_takenAt_20 ⟨Nat.le_of_ble_eq_true rfl, Nat.le_of_ble_eq_true rfl⟩ (by omega) (by omega) trivial (fun locs hL => ?_)
  refine b_ifne (tgt := 34) X dX5_takenAt_23 (by decide) (fun c_23 => ?_) (fun c_23 => ?_)
  ·
    obtain ⟨hxc, hxl⟩ := noB_nat (n := min (cnt (tellB (S.1 0) n (hasB (matI (mw (S.1 0))))) n) 40) (v := x) (by omega) (by unfold noB; rw [c_23]; rfl)
    refine lv_aload_n hx hb dX5_takenAt_34 rfl (lv_at hl 1 rfl) ?_
    refine mg_35 X rfl hW dX5_takenAt_35 ?_
    refine lv_iload_n hx hb dX5_takenAt_38 rfl (lv_at hl 2 rfl) ?_
    refine W.stk (w := (nI x.toNatClampNeg)) hxc ?_
    refine m_ld (v := (nI (gBs (S.1 0) n (tellB (S.1 0) n (hasB (matI (mw (S.1 0))))) x.toNatClampNeg))) X hW 8 (by decide) rfl x.toNatClampNeg rfl (by show x.toNatClampNeg < 40; omega) (show (setI (S.1 8) (min (cnt (tellB (S.1 0) n (hasB (matI (mw (S.1 0))))) n) 40) (fun j => nI (gBs (S.1 0) n (tellB (S.1 0) n (hasB (matI (mw (S.1 0))))) j))) x.toNatClampNeg = (nI (gBs (S.1 0) n (tellB (S.1 0) n (hasB (matI (mw (S.1 0))))) x.toNatClampNeg)) from (setI_l (by omega))) dX5_takenAt_39 ?_
    exact r_iret X hL rfl rfl dX5_takenAt_40 (by omega) (by omega) ⟨uS (uS (uA (uA (uA S 5 (setB (S.1 5) n (grS (S.1 0) n (tellB (S.1 0) n (hasB (matI (mw (S.1 0))))) (min (cnt (tellB (S.1 0) n (hasB (matI (mw (S.1 0))))) n) 40)).1)) 6 (setB (S.1 6) n (grS (S.1 0) n (tellB (S.1 0) n (hasB (matI (mw (S.1 0))))) (min (cnt (tellB (S.1 0) n (hasB (matI (mw (S.1 0))))) n) 40)).2.1)) 8 (setI (S.1 8) (min (cnt (tellB (S.1 0) n (hasB (matI (mw (S.1 0))))) n) 40) (fun j => nI (gBs (S.1 0) n (tellB (S.1 0) n (hasB (matI (mw (S.1 0))))) j)))) 9 (nI (min (cnt (tellB (S.1 0) n (hasB (matI (mw (S.1 0))))) n) 40))) 15 (nI 0), AP.mk (t := 0) (v := some (.int (nI (gBs (S.1 0) n (tellB (S.1 0) n (hasB (matI (mw (S.1 0))))) x.toNatClampNeg)))) (X := S) (by simp only [s_taken, c_23]; rfl) ⟨rfl, rfl, rfl, rfl, rfl, rfl, rfl, rfl⟩ rfl rfl, hW, hO⟩
  ·
    refine lv_aload_n hx hb dX5_takenAt_26 rfl (lv_at hl 1 rfl) ?_
    refine lv_iconst (v := nI 1) hx hb dX5_takenAt_27 (by decide) ?_
    refine Ct.callV (ct_X5_fails l g o (uS (uS (uA (uA (uA S 5 (setB (S.1 5) n (grS (S.1 0) n (tellB (S.1 0) n (hasB (matI (mw (S.1 0))))) (min (cnt (tellB (S.1 0) n (hasB (matI (mw (S.1 0))))) n) 40)).1)) 6 (setB (S.1 6) n (grS (S.1 0) n (tellB (S.1 0) n (hasB (matI (mw (S.1 0))))) (min (cnt (tellB (S.1 0) n (hasB (matI (mw (S.1 0))))) n) 40)).2.1)) 8 (setI (S.1 8) (min (cnt (tellB (S.1 0) n (hasB (matI (mw (S.1 0))))) n) 40) (fun j => nI (gBs (S.1 0) n (tellB (S.1 0) n (hasB (matI (mw (S.1 0))))) j)))) 9 (nI (min (cnt (tellB (S.1 0) n (hasB (matI (mw (S.1 0))))) n) 40))) 15 (nI 0)) (nI 1) ) X hL hl vb_X5_fails q1904 (hW.2.1.recv hKV rfl) rfl rfl (Nat.le_of_ble_eq_true rfl) dX5_takenAt_28 ⟨Nat.le_of_ble_eq_true rfl, Nat.le_of_ble_eq_true rfl⟩ (by omega) (by omega) hW (fun r H1 locs hL hp => ?_)
    obtain ⟨rfl, hW, hO1⟩ := hp
    have hO := hO.trans hO1
    have hW := MW.cast (S1 := uS (uS (uA (uA (uA S 5 (setB (S.1 5) n (grS (S.1 0) n (tellB (S.1 0) n (hasB (matI (mw (S.1 0))))) (min (cnt (tellB (S.1 0) n (hasB (matI (mw (S.1 0))))) n) 40)).1)) 6 (setB (S.1 6) n (grS (S.1 0) n (tellB (S.1 0) n (hasB (matI (mw (S.1 0))))) (min (cnt (tellB (S.1 0) n (hasB (matI (mw (S.1 0))))) n) 40)).2.1)) 8 (setI (S.1 8) (min (cnt (tellB (S.1 0) n (hasB (matI (mw (S.1 0))))) n) 40) (fun j => nI (gBs (S.1 0) n (tellB (S.1 0) n (hasB (matI (mw (S.1 0))))) j)))) 9 (nI (min (cnt (tellB (S.1 0) n (hasB (matI (mw (S.1 0))))) n) 40))) 15 (nI 1)) hW ⟨rfl, rfl, rfl, rfl, rfl, rfl, rfl, rfl, rfl, rfl, rfl, rfl, rfl, rfl, rfl, rfl, rfl⟩
    refine W.stk (w := (nI 0)) rfl ?_
    refine lv_goto (tgt := 40) hx hb dX5_takenAt_31 (by decide) ?_
    exact r_iret X hL rfl rfl dX5_takenAt_40 (by omega) (by omega) ⟨uS (uS (uA (uA (uA S 5 (setB (S.1 5) n (grS (S.1 0) n (tellB (S.1 0) n (hasB (matI (mw (S.1 0))))) (min (cnt (tellB (S.1 0) n (hasB (matI (mw (S.1 0))))) n) 40)).1)) 6 (setB (S.1 6) n (grS (S.1 0) n (tellB (S.1 0) n (hasB (matI (mw (S.1 0))))) (min (cnt (tellB (S.1 0) n (hasB (matI (mw (S.1 0))))) n) 40)).2.1)) 8 (setI (S.1 8) (min (cnt (tellB (S.1 0) n (hasB (matI (mw (S.1 0))))) n) 40) (fun j => nI (gBs (S.1 0) n (tellB (S.1 0) n (hasB (matI (mw (S.1 0))))) j)))) 9 (nI (min (cnt (tellB (S.1 0) n (hasB (matI (mw (S.1 0))))) n) 40))) 15 (nI 1), AP.mk (t := 1) (v := some (.int (nI 0))) (X := S) (by simp only [s_taken, c_23]; rfl) ⟨rfl, rfl, rfl, rfl, rfl, rfl, rfl, rfl⟩ rfl rfl, hW, hO⟩
theorem vb_X5_takenAt : VB yX5_takenAt cX5_takenAt 3 (some .int) 1 := ⟨q2225, q2226, q111, q2227, ⟨by decide, by decide, by decide +kernel⟩⟩

set_option maxRecDepth 100000 in
set_option maxHeartbeats 4000000 in
theorem ct_X5_sees (l : Launch) (g : GT) (o n i a b : Nat) (S : MS) (hln : S.2.1 13 = nI n) (hat : S.2.1 14 = nI i) (hn6 : n ≤ 60) (hi : i ≤ n) : Ct l g yX5_sees cX5_sees 3 (some .boolean) 2 0 0 [.ref o, .int (nI a), .int (nI b)] (MW g o S) (fun r H H1 => r = some (.int (bI (seeB (S.1 4) n i a b))) ∧ H1 = H) := by
  refine Ct.of (by decide) (Nat.le_of_ble_eq_true rfl) ?_
  intro p e s m args below meth c X hP ls hl
  have hx := X.1
  have hb := X.2.1
  have hKV := X.2.2.2.2.2.2.2.1.1
  have hL : ∀ q ∈ ([] : List Loc), gLo g ≤ q.base := fun _ h => by cases h
  have hl : lv_has ls 3 [(0, .ref o), (1, .int (nI a)), (2, .int (nI b))] := hl
  have hW : MW g o S s.heap := hP
  have hO : Off o s.heap s.heap := Off.rfl'
  refine lv_aload_n hx hb dX5_sees_0 rfl (lv_at hl 0 rfl) ?_
  refine mg_121 X rfl hW dX5_sees_1 (W.stk (w := (nI i)) hat ?_)
  refine lv_aload_n hx hb dX5_sees_4 rfl (lv_at hl 0 rfl) ?_
  refine mg_118 X rfl hW dX5_sees_5 (W.stk (w := (nI n)) hln ?_)
  refine n_icmp_ge (tgt := 32) X dX5_sees_8 (by decide) (by omega) (by omega) (fun c_8 => ?_) (fun c_8 => ?_)
  ·
    refine lv_iconst (v := nI 0) hx hb dX5_sees_32 (by decide) ?_
    exact r_iret X hL rfl rfl dX5_sees_33 (by omega) (by omega) ⟨v_f (by unfold seeB; rw [decide_eq_false (by omega)]; rfl), rfl⟩
  ·
    refine lv_aload_n hx hb dX5_sees_11 rfl (lv_at hl 0 rfl) ?_
    refine mg_22 X rfl hW dX5_sees_12 ?_
    refine lv_aload_n hx hb dX5_sees_15 rfl (lv_at hl 0 rfl) ?_
    refine mg_121 X rfl hW dX5_sees_16 (W.stk (w := (nI i)) hat ?_)
    refine m_ld (v := ((S.1 4) i)) X hW 4 (by decide) rfl i rfl (by show i < 60; omega) rfl dX5_sees_19 ?_
    refine lv_iload_n hx hb dX5_sees_20 rfl (lv_at hl 1 rfl) ?_
    refine lv_iload_n hx hb dX5_sees_21 rfl (lv_at hl 2 rfl) ?_
    refine Cp.callS (v := .int (bI (inB ((S.1 4) i) (nI a) (nI b)))) (ct_X5_in l g ((S.1 4) i) (nI a) (nI b) ) X hL hl sb_X5_in q1885 rfl rfl (Nat.le_of_ble_eq_true rfl) dX5_sees_22 ⟨Nat.le_of_ble_eq_true rfl, Nat.le_of_ble_eq_true rfl⟩ (by omega) (by omega) trivial (fun locs hL => ?_)
    refine b_ifeq (tgt := 32) X dX5_sees_25 (by decide) (fun c_25 => ?_) (fun c_25 => ?_)
    ·
      refine lv_iconst (v := nI 0) hx hb dX5_sees_32 (by decide) ?_
      exact r_iret X hL rfl rfl dX5_sees_33 (by omega) (by omega) ⟨v_f (by unfold seeB; rw [c_25, Bool.and_false]), rfl⟩
    ·
      refine lv_iconst (v := nI 1) hx hb dX5_sees_28 (by decide) ?_
      refine lv_goto (tgt := 33) hx hb dX5_sees_29 (by decide) ?_
      exact r_iret X hL rfl rfl dX5_sees_33 (by omega) (by omega) ⟨v_t (by unfold seeB; rw [c_25, decide_eq_true c_8]; rfl), rfl⟩
theorem vb_X5_sees : VB yX5_sees cX5_sees 3 (some .boolean) 2 := ⟨q1997, qs70, q111, q1998, ⟨by decide, by decide, by decide +kernel⟩⟩

set_option maxRecDepth 100000 in
set_option maxHeartbeats 4000000 in
theorem ct_X5_passes (l : Launch) (g : GT) (o n i a b : Nat) (S : MS) (hln : S.2.1 13 = nI n) (hat : S.2.1 14 = nI i) (hn6 : n ≤ 60) (hi : i ≤ n) : Ct l g yX5_passes cX5_passes 4 (some .boolean) 3 0 0 [.ref o, .int (nI a), .int (nI b)] (MW g o S) (fun r H H1 => ∃ (j : Nat), (j = (pS (S.1 4) n i a b).2) ∧ (j ≤ n) ∧ r = some (.int (bI ((pS (S.1 4) n i a b).1))) ∧ MW g o (uS S 14 (nI j)) H1 ∧ Off o H H1) := by
  refine Ct.of (by decide) (Nat.le_of_ble_eq_true rfl) ?_
  intro p e s m args below meth c X hP ls hl
  have hx := X.1
  have hb := X.2.1
  have hKV := X.2.2.2.2.2.2.2.1.1
  have hL : ∀ q ∈ ([] : List Loc), gLo g ≤ q.base := fun _ h => by cases h
  have hl : lv_has ls 4 [(0, .ref o), (1, .int (nI a)), (2, .int (nI b))] := hl
  have hW : MW g o S s.heap := hP
  have hO : Off o s.heap s.heap := Off.rfl'
  refine lv_aload_n hx hb dX5_passes_0 rfl (lv_at hl 0 rfl) ?_
  refine lv_iload_n hx hb dX5_passes_1 rfl (lv_at hl 1 rfl) ?_
  refine lv_iload_n hx hb dX5_passes_2 rfl (lv_at hl 2 rfl) ?_
  refine Cp.callV (v := .int (bI (seeB (S.1 4) n i a b))) (ct_X5_sees l g o n i a b S hln hat (by omega) (by omega)) X hL hl vb_X5_sees q1995 (hW.2.1.recv hKV rfl) rfl rfl (Nat.le_of_ble_eq_true rfl) dX5_passes_3 ⟨Nat.le_of_ble_eq_true rfl, Nat.le_of_ble_eq_true rfl⟩ (by omega) (by omega) hW (fun locs hL => ?_)
  refine lv_istore_n (lv' := [(3, .int _), (0, .ref _), (1, .int _), (2, .int _)]) hx hb dX5_passes_6 rfl hl (by decide) rfl (fun ls hl => ?_)
  refine lv_aload_n hx hb dX5_passes_7 rfl (lv_at hl 1 rfl) ?_
  refine lv_dup hx hb dX5_passes_8 rfl ?_
  refine mg_121 X rfl hW dX5_passes_9 (W.stk (w := (nI i)) hat ?_)
  refine lv_iload_n hx hb dX5_passes_12 rfl (lv_at hl 0 rfl) ?_
  refine b_ifeq (tgt := 20) X dX5_passes_13 (by decide) (fun c_13 => ?_) (fun c_13 => ?_)
  ·
    refine lv_iconst (v := nI 0) hx hb dX5_passes_20 (by decide) ?_
    refine n_iadd X dX5_passes_21 ?_
    refine mp_121 X rfl hL hW dX5_passes_22 (fun H locs hL hW hO1 => ?_)
    have hO := hO.trans hO1
    have hW := MW.cast (S1 := uS S 14 (nI (i + 0))) hW ⟨rfl, rfl, rfl, rfl, rfl, rfl, rfl, rfl, rfl, rfl, rfl, rfl, rfl, rfl, rfl, rfl, rfl⟩
    refine lv_iload_n hx hb dX5_passes_25 rfl (lv_at hl 0 rfl) ?_
    exact r_iret X hL rfl (narrow_bI _) dX5_passes_26 (by omega) (by omega) ⟨i + 0, (pS_f c_13).symm, (by omega), rfl, (MW.cast hW ⟨rfl, rfl, rfl, rfl, rfl, rfl, rfl, rfl, rfl, rfl, rfl, rfl, rfl, rfl, rfl, rfl, rfl⟩), hO⟩
  ·
    refine lv_iconst (v := nI 1) hx hb dX5_passes_16 (by decide) ?_
    refine lv_goto (tgt := 21) hx hb dX5_passes_17 (by decide) ?_
    refine n_iadd X dX5_passes_21 ?_
    refine mp_121 X rfl hL hW dX5_passes_22 (fun H locs hL hW hO1 => ?_)
    have hO := hO.trans hO1
    have hW := MW.cast (S1 := uS S 14 (nI (i + 1))) hW ⟨rfl, rfl, rfl, rfl, rfl, rfl, rfl, rfl, rfl, rfl, rfl, rfl, rfl, rfl, rfl, rfl, rfl⟩
    refine lv_iload_n hx hb dX5_passes_25 rfl (lv_at hl 0 rfl) ?_
    exact r_iret X hL rfl (narrow_bI _) dX5_passes_26 (by omega) (by omega) ⟨i + 1, (pS_t c_13).1.symm, (see_lt c_13), rfl, (MW.cast hW ⟨rfl, rfl, rfl, rfl, rfl, rfl, rfl, rfl, rfl, rfl, rfl, rfl, rfl, rfl, rfl, rfl, rfl⟩), hO⟩
theorem vb_X5_passes : VB yX5_passes cX5_passes 4 (some .boolean) 2 := ⟨q1993, qs69, q111, q1994, ⟨by decide, by decide, by decide +kernel⟩⟩

set_option maxRecDepth 100000 in
set_option maxHeartbeats 4000000 in
theorem ct_X5_passesNumber (l : Launch) (g : GT) (o n i t : Nat) (S : MS) (hln : S.2.1 13 = nI n) (hat : S.2.1 14 = nI i) (hn6 : n ≤ 60) (hi : i ≤ n) : Ct l g yX5_passesNumber cX5_passesNumber 2 (some .boolean) 4 0 0 [.ref o, .int (nI t)] (MW g o S) (fun r H H1 => ∃ (j : Nat), (j = (pnS (S.1 4) n i t).2) ∧ (j ≤ n) ∧ r = some (.int (bI ((pnS (S.1 4) n i t).1))) ∧ MW g o (uS S 14 (nI j)) H1 ∧ Off o H H1) := by
  refine Ct.of (by decide) (Nat.le_of_ble_eq_true rfl) ?_
  intro p e s m args below meth c X hP ls hl
  have hx := X.1
  have hb := X.2.1
  have hKV := X.2.2.2.2.2.2.2.1.1
  have hL : ∀ q ∈ ([] : List Loc), gLo g ≤ q.base := fun _ h => by cases h
  have hl : lv_has ls 2 [(0, .ref o), (1, .int (nI t))] := hl
  have hW : MW g o S s.heap := hP
  have hO : Off o s.heap s.heap := Off.rfl'
  refine lv_aload_n hx hb dX5_passesNumber_0 rfl (lv_at hl 0 rfl) ?_
  refine lv_bipush (v := nI 48) hx hb dX5_passesNumber_1 (by decide) ?_
  refine lv_bipush (v := nI 48) hx hb dX5_passesNumber_3 (by decide) ?_
  refine Ct.callV (ct_X5_passes l g o n i 48 48 S hln hat (by omega) (by omega)) X hL hl vb_X5_passes q1991 (hW.2.1.recv hKV rfl) rfl rfl (Nat.le_of_ble_eq_true rfl) dX5_passesNumber_5 ⟨Nat.le_of_ble_eq_true rfl, Nat.le_of_ble_eq_true rfl⟩ (by omega) (by omega) hW (fun r H1 locs hL hp => ?_)
  obtain ⟨j_5, hj_5, hjn_5, rfl, hW, hO1⟩ := hp
  have hO := hO.trans hO1
  have hj_5 : j_5 = (pS (S.1 4) n i 48 48).2 := hj_5
  have hjn_5 : j_5 ≤ n := hjn_5
  have hW := MW.cast (S1 := uS S 14 (nI j_5)) hW ⟨rfl, rfl, rfl, rfl, rfl, rfl, rfl, rfl, rfl, rfl, rfl, rfl, rfl, rfl, rfl, rfl, rfl⟩
  refine W.stk (w := (bI ((pS (S.1 4) n i 48 48).1))) rfl ?_
  refine b_ifeq (tgt := 13) X dX5_passesNumber_8 (by decide) (fun c_8 => ?_) (fun c_8 => ?_)
  ·
    refine lv_aload_n hx hb dX5_passesNumber_13 rfl (lv_at hl 0 rfl) ?_
    refine lv_bipush (v := nI 49) hx hb dX5_passesNumber_14 (by decide) ?_
    refine lv_bipush (v := nI 57) hx hb dX5_passesNumber_16 (by decide) ?_
    refine Ct.callV (ct_X5_passes l g o n j_5 49 57 (uS S 14 (nI j_5)) hln rfl (by omega) (by omega)) X hL hl vb_X5_passes q1991 (hW.2.1.recv hKV rfl) rfl rfl (Nat.le_of_ble_eq_true rfl) dX5_passesNumber_18 ⟨Nat.le_of_ble_eq_true rfl, Nat.le_of_ble_eq_true rfl⟩ (by omega) (by omega) hW (fun r H1 locs hL hp => ?_)
    obtain ⟨j_18, hj_18, hjn_18, rfl, hW, hO1⟩ := hp
    have hO := hO.trans hO1
    have hj_18 : j_18 = (pS (S.1 4) n j_5 49 57).2 := hj_18
    have hjn_18 : j_18 ≤ n := hjn_18
    have hW := MW.cast (S1 := uS S 14 (nI j_18)) hW ⟨rfl, rfl, rfl, rfl, rfl, rfl, rfl, rfl, rfl, rfl, rfl, rfl, rfl, rfl, rfl, rfl, rfl⟩
    refine W.stk (w := (bI ((pS (S.1 4) n j_5 49 57).1))) rfl ?_
    refine b_ifne (tgt := 26) X dX5_passesNumber_21 (by decide) (fun c_21 => ?_) (fun c_21 => ?_)
    ·
      have hq1 := pS_t c_21
      have hq0 := pS_f c_8
      refine lv_aload_n hx hb dX5_passesNumber_26 rfl (lv_at hl 0 rfl) ?_
      refine lv_dup hx hb dX5_passesNumber_27 rfl ?_
      refine mg_121 X rfl hW dX5_passesNumber_28 (W.stk (w := (nI j_18)) rfl ?_)
      refine lv_aload_n hx hb dX5_passesNumber_31 rfl (lv_at hl 0 rfl) ?_
      refine lv_bipush (v := nI 48) hx hb dX5_passesNumber_32 (by decide) ?_
      refine lv_bipush (v := nI 57) hx hb dX5_passesNumber_34 (by decide) ?_
      refine Cp.callV (v := .int (bI (seeB (S.1 4) n j_18 48 57))) (ct_X5_sees l g o n j_18 48 57 (uS S 14 (nI j_18)) hln rfl (by omega) (by omega)) X hL hl vb_X5_sees q1995 (hW.2.1.recv hKV rfl) rfl rfl (Nat.le_of_ble_eq_true rfl) dX5_passesNumber_36 ⟨Nat.le_of_ble_eq_true rfl, Nat.le_of_ble_eq_true rfl⟩ (by omega) (by omega) hW (fun locs hL => ?_)
      refine b_ifeq (tgt := 80) X dX5_passesNumber_39 (by decide) (fun c_39 => ?_) (fun c_39 => ?_)
      ·
        refine lv_iconst (v := nI 0) hx hb dX5_passesNumber_80 (by decide) ?_
        refine n_iadd X dX5_passesNumber_81 ?_
        refine mp_121 X rfl hL hW dX5_passesNumber_82 (fun H locs hL hW hO1 => ?_)
        have hO := hO.trans hO1
        have hW := MW.cast (S1 := uS S 14 (nI (j_18 + 0))) hW ⟨rfl, rfl, rfl, rfl, rfl, rfl, rfl, rfl, rfl, rfl, rfl, rfl, rfl, rfl, rfl, rfl, rfl⟩
        refine lv_iconst (v := nI 1) hx hb dX5_passesNumber_85 (by decide) ?_
        exact r_iret X hL rfl rfl dX5_passesNumber_86 (by omega) (by omega) ⟨j_18 + 0, (by simp only [pnS, thB, ifP, if_true, if_false, Bool.false_eq_true, c_8, c_21, ← hj_5, ← hj_18]; rw [c_39]; rfl), (by omega), (by rw [show (pnS (S.1 4) n i t).1 = true from by simp only [pnS, thB, ifP, if_true, if_false, Bool.false_eq_true, c_8, c_21, ← hj_5, ← hj_18]]; rfl), (MW.cast hW ⟨rfl, rfl, rfl, rfl, rfl, rfl, rfl, rfl, rfl, rfl, rfl, rfl, rfl, rfl, rfl, rfl, rfl⟩), hO⟩
      ·
        have hsl := see_lt c_39
        refine lv_bipush (v := nI 10) hx hb dX5_passesNumber_42 (by decide) ?_
        refine lv_aload_n hx hb dX5_passesNumber_44 rfl (lv_at hl 0 rfl) ?_
        refine mg_22 X rfl hW dX5_passesNumber_45 ?_
        refine lv_aload_n hx hb dX5_passesNumber_48 rfl (lv_at hl 0 rfl) ?_
        refine mg_121 X rfl hW dX5_passesNumber_49 (W.stk (w := (nI j_18)) rfl ?_)
        refine lv_iconst (v := nI 1) hx hb dX5_passesNumber_52 (by decide) ?_
        refine n_isub X (by omega) dX5_passesNumber_53 ?_
        refine m_ld (v := ((S.1 4) (j_18 - 1))) X hW 4 (by decide) rfl (j_18 - 1) rfl (by show j_18 - 1 < 60; omega) rfl dX5_passesNumber_54 ?_
        refine lv_bipush (v := nI 48) hx hb dX5_passesNumber_55 (by decide) ?_
        refine lv_isub hx hb dX5_passesNumber_57 ?_
        refine lv_imul hx hb dX5_passesNumber_58 ?_
        refine lv_aload_n hx hb dX5_passesNumber_59 rfl (lv_at hl 0 rfl) ?_
        refine mg_22 X rfl hW dX5_passesNumber_60 ?_
        refine lv_aload_n hx hb dX5_passesNumber_63 rfl (lv_at hl 0 rfl) ?_
        refine mg_121 X rfl hW dX5_passesNumber_64 (W.stk (w := (nI j_18)) rfl ?_)
        refine m_ld (v := ((S.1 4) j_18)) X hW 4 (by decide) rfl j_18 rfl (by show j_18 < 60; omega) rfl dX5_passesNumber_67 ?_
        refine lv_iadd hx hb dX5_passesNumber_68 ?_
        refine lv_bipush (v := nI 48) hx hb dX5_passesNumber_69 (by decide) ?_
        refine lv_isub hx hb dX5_passesNumber_71 ?_
        refine lv_iload_n hx hb dX5_passesNumber_72 rfl (lv_at hl 1 rfl) ?_
        refine lv_icmp_gt (tgt := 80) hx hb dX5_passesNumber_73 (by decide) (fun c_73 => ?_) (fun c_73 => ?_)
        ·
          refine lv_iconst (v := nI 0) hx hb dX5_passesNumber_80 (by decide) ?_
          refine n_iadd X dX5_passesNumber_81 ?_
          refine mp_121 X rfl hL hW dX5_passesNumber_82 (fun H locs hL hW hO1 => ?_)
          have hO := hO.trans hO1
          have hW := MW.cast (S1 := uS S 14 (nI (j_18 + 0))) hW ⟨rfl, rfl, rfl, rfl, rfl, rfl, rfl, rfl, rfl, rfl, rfl, rfl, rfl, rfl, rfl, rfl, rfl⟩
          refine lv_iconst (v := nI 1) hx hb dX5_passesNumber_85 (by decide) ?_
          exact r_iret X hL rfl rfl dX5_passesNumber_86 (by omega) (by omega) ⟨j_18 + 0, (by simp only [pnS, thB, ifP, if_true, if_false, Bool.false_eq_true, c_8, c_21, ← hj_5, ← hj_18]; rw [c_39, show two9 (S.1 4) j_18 t = false from decide_eq_false (nle_of_lt c_73)]; rfl), (by omega), (by rw [show (pnS (S.1 4) n i t).1 = true from by simp only [pnS, thB, ifP, if_true, if_false, Bool.false_eq_true, c_8, c_21, ← hj_5, ← hj_18]]; rfl), (MW.cast hW ⟨rfl, rfl, rfl, rfl, rfl, rfl, rfl, rfl, rfl, rfl, rfl, rfl, rfl, rfl, rfl, rfl, rfl⟩), hO⟩
        ·
          refine lv_iconst (v := nI 1) hx hb dX5_passesNumber_76 (by decide) ?_
          refine lv_goto (tgt := 81) hx hb dX5_passesNumber_77 (by decide) ?_
          refine n_iadd X dX5_passesNumber_81 ?_
          refine mp_121 X rfl hL hW dX5_passesNumber_82 (fun H locs hL hW hO1 => ?_)
          have hO := hO.trans hO1
          have hW := MW.cast (S1 := uS S 14 (nI (j_18 + 1))) hW ⟨rfl, rfl, rfl, rfl, rfl, rfl, rfl, rfl, rfl, rfl, rfl, rfl, rfl, rfl, rfl, rfl, rfl⟩
          refine lv_iconst (v := nI 1) hx hb dX5_passesNumber_85 (by decide) ?_
          exact r_iret X hL rfl rfl dX5_passesNumber_86 (by omega) (by omega) ⟨j_18 + 1, (by simp only [pnS, thB, ifP, if_true, if_false, Bool.false_eq_true, c_8, c_21, ← hj_5, ← hj_18]; rw [c_39, show two9 (S.1 4) j_18 t = true from decide_eq_true (le_of_nlt c_73)]; rfl), (see_lt c_39), (by rw [show (pnS (S.1 4) n i t).1 = true from by simp only [pnS, thB, ifP, if_true, if_false, Bool.false_eq_true, c_8, c_21, ← hj_5, ← hj_18]]; rfl), (MW.cast hW ⟨rfl, rfl, rfl, rfl, rfl, rfl, rfl, rfl, rfl, rfl, rfl, rfl, rfl, rfl, rfl, rfl, rfl⟩), hO⟩
    ·
      refine lv_iconst (v := nI 0) hx hb dX5_passesNumber_24 (by decide) ?_
      exact r_iret X hL rfl rfl dX5_passesNumber_25 (by omega) (by omega) ⟨j_18, (by simp only [pnS, thB, ifP, if_true, if_false, Bool.false_eq_true, c_8, c_21, ← hj_5, ← hj_18]), (by omega), (by rw [show (pnS (S.1 4) n i t).1 = false from by simp only [pnS, thB, ifP, if_true, if_false, Bool.false_eq_true, c_8, c_21, ← hj_5, ← hj_18]]; rfl), (MW.cast hW ⟨rfl, rfl, rfl, rfl, rfl, rfl, rfl, rfl, rfl, rfl, rfl, rfl, rfl, rfl, rfl, rfl, rfl⟩), hO⟩
  ·
    refine lv_iconst (v := nI 1) hx hb dX5_passesNumber_11 (by decide) ?_
    exact r_iret X hL rfl rfl dX5_passesNumber_12 (by omega) (by omega) ⟨j_5, (by simp only [pnS, thB, ifP, if_true, if_false, Bool.false_eq_true, c_8, ← hj_5]), (by omega), (by rw [show (pnS (S.1 4) n i t).1 = true from by simp only [pnS, thB, ifP, if_true, if_false, Bool.false_eq_true, c_8, ← hj_5]]; rfl), (MW.cast hW ⟨rfl, rfl, rfl, rfl, rfl, rfl, rfl, rfl, rfl, rfl, rfl, rfl, rfl, rfl, rfl, rfl, rfl⟩), hO⟩
theorem vb_X5_passesNumber : VB yX5_passesNumber cX5_passesNumber 2 (some .boolean) 1 := ⟨q2001, qs71, q111, q2002, ⟨by decide, by decide, by decide +kernel⟩⟩

theorem pfS_T {f : Nat → Int32} {n i : Nat} {t : Int32} (h : (inB (dgI f n i) (nI 0) (nI 9) && (decide (t ≤ dgI f n i) || (decide (dgI f n i ≠ 0) && decide (t ≤ nI 10 * dgI f n i + nI 9)))) = true) : pfS f n i t = (goB (dgI f n i) (dgI f n (i + 1)) t || decide (t ≤ dgI f n i), if goB (dgI f n i) (dgI f n (i + 1)) t then i + 1 + 1 else i + 1) := if_pos h
theorem pfS_F {f : Nat → Int32} {n i : Nat} {t : Int32} (h : (inB (dgI f n i) (nI 0) (nI 9) && (decide (t ≤ dgI f n i) || (decide (dgI f n i ≠ 0) && decide (t ≤ nI 10 * dgI f n i + nI 9)))) = false) : pfS f n i t = (false, i) := if_neg (by rw [h]; decide)
theorem fau_more {f : Nat → Int32} {n q i : Nat} (h1 : (ptS f n i).1 = true) (h2 : ¬ (ptS f n i).2 = n) : fauG f n (q + 1) i = if (pS f n (ptS f n i).2 59 59).1 then fauG f n q (pS f n (ptS f n i).2 59 59).2 else (nI (pS f n (ptS f n i).2 59 59).2, (pS f n (ptS f n i).2 59 59).2) := by rw [fauG, if_pos h1, if_neg h2]
def s_fe (S : MS) (n : Nat) : Nat × Option Value × MS := q_ S (if (fauG (S.1 4) n (n + 1) 0).1 = (-1) then nI n else (fauG (S.1 4) n (n + 1) 0).1)

set_option maxRecDepth 100000 in
set_option maxHeartbeats 4000000 in
theorem ct_X5_passesFrom (l : Launch) (g : GT) (o n i : Nat) (S : MS) (t : Int32) (hln : S.2.1 13 = nI n) (hat : S.2.1 14 = nI i) (hn6 : n ≤ 60) (hi : i ≤ n) : Ct l g yX5_passesFrom cX5_passesFrom 5 (some .boolean) 4 0 0 [.ref o, .int t] (MW g o S) (fun r H H1 => ∃ (j : Nat), (j = (pfS (S.1 4) n i t).2) ∧ (j ≤ n) ∧ r = some (.int (bI ((pfS (S.1 4) n i t).1))) ∧ MW g o (uS S 14 (nI j)) H1 ∧ Off o H H1) := by
  refine Ct.of (by decide) (Nat.le_of_ble_eq_true rfl) ?_
  intro p e s m args below meth c X hP ls hl
  have hx := X.1
  have hb := X.2.1
  have hKV := X.2.2.2.2.2.2.2.1.1
  have hL : ∀ q ∈ ([] : List Loc), gLo g ≤ q.base := fun _ h => by cases h
  have hl : lv_has ls 5 [(0, .ref o), (1, .int t)] := hl
  have hW : MW g o S s.heap := hP
  have hO : Off o s.heap s.heap := Off.rfl'
  have C28 : ∀ (locs : List Loc), (∀ q ∈ locs, gLo g ≤ q.base) → ∀ (ls : Array Slot), lv_has ls 5 [(0, .ref o), (1, .int t), (2, .int (dgI (S.1 4) n i))] → W p l e (rmL 4 0 0) s m args below meth c s.heap locs 0 0 (MQ below (Qcg (fun r H H1 => ∃ (j : Nat), (j = (pfS (S.1 4) n i t).2) ∧ (j ≤ n) ∧ r = some (.int (bI ((pfS (S.1 4) n i t).1))) ∧ MW g o (uS S 14 (nI j)) H1 ∧ Off o H H1)) args s 0 0 (fre g)) (F0 m 28 ls []) := by
    intro    locs hL ls hl
    have C60 : ((inB (dgI (S.1 4) n i) (nI 0) (nI 9) && (decide (t ≤ dgI (S.1 4) n i) || (decide (dgI (S.1 4) n i ≠ 0) && decide (t ≤ nI 10 * dgI (S.1 4) n i + nI 9)))) = true) → ∀ (locs : List Loc), (∀ q ∈ locs, gLo g ≤ q.base) → ∀ (ls : Array Slot), lv_has ls 5 [(0, .ref o), (1, .int t), (2, .int (dgI (S.1 4) n i))] → W p l e (rmL 4 0 0) s m args below meth c s.heap locs 0 0 (MQ below (Qcg (fun r H H1 => ∃ (j : Nat), (j = (pfS (S.1 4) n i t).2) ∧ (j ≤ n) ∧ r = some (.int (bI ((pfS (S.1 4) n i t).1))) ∧ MW g o (uS S 14 (nI j)) H1 ∧ Off o H H1)) args s 0 0 (fre g)) (F0 m 60 ls []) := by
      intro  hc  locs hL ls hl
      have hil : i < n := dg_lt (Bool.and_eq_true_iff.mp hc).1
      have C98 : ∀ (H : Heap), MW g o (uS S 14 (nI (i + 1))) H → Off o s.heap H → ∀ (locs : List Loc), (∀ q ∈ locs, gLo g ≤ q.base) → ∀ (ls : Array Slot), lv_has ls 5 [(0, .ref o), (1, .int t), (2, .int (dgI (S.1 4) n i)), (3, .int (dgI (S.1 4) n (i + 1)))] → W p l e (rmL 4 0 0) s m args below meth c H locs 0 0 (MQ below (Qcg (fun r H H1 => ∃ (j : Nat), (j = (pfS (S.1 4) n i t).2) ∧ (j ≤ n) ∧ r = some (.int (bI ((pfS (S.1 4) n i t).1))) ∧ MW g o (uS S 14 (nI j)) H1 ∧ Off o H H1)) args s 0 0 (fre g)) (F0 m 98 ls []) := by
        intro   H hW hO locs hL ls hl
        have C129 : ∀ (z : Bool), (z = goB (dgI (S.1 4) n i) (dgI (S.1 4) n (i + 1)) t) → ∀ (H : Heap), MW g o (uS S 14 (nI (i + 1))) H → Off o s.heap H → ∀ (locs : List Loc), (∀ q ∈ locs, gLo g ≤ q.base) → ∀ (ls : Array Slot), lv_has ls 5 [(0, .ref o), (1, .int t), (2, .int (dgI (S.1 4) n i)), (3, .int (dgI (S.1 4) n (i + 1))), (4, .int (bI z))] → W p l e (rmL 4 0 0) s m args below meth c H locs 0 0 (MQ below (Qcg (fun r H H1 => ∃ (j : Nat), (j = (pfS (S.1 4) n i t).2) ∧ (j ≤ n) ∧ r = some (.int (bI ((pfS (S.1 4) n i t).1))) ∧ MW g o (uS S 14 (nI j)) H1 ∧ Off o H H1)) args s 0 0 (fre g)) (F0 m 129 ls []) := by
          intro z hz H hW hO locs hL ls hl
          refine lv_aload_n hx hb dX5_passesFrom_129 rfl (lv_at hl 0 rfl) ?_
          refine lv_dup hx hb dX5_passesFrom_130 rfl ?_
          refine mg_121 X rfl hW dX5_passesFrom_131 (W.stk (w := (nI (i + 1))) rfl ?_)
          refine lv_iload hx hb dX5_passesFrom_134 (lv_at hl 4 rfl) ?_
          refine b_ifeq (tgt := 143) X dX5_passesFrom_136 (by decide) (fun c_136 => ?_) (fun c_136 => ?_)
          ·
            have hz0 : goB (dgI (S.1 4) n i) (dgI (S.1 4) n (i + 1)) t = false := hz.symm.trans c_136
            refine lv_iconst (v := nI 0) hx hb dX5_passesFrom_143 (by decide) ?_
            refine n_iadd X dX5_passesFrom_144 ?_
            refine mp_121 X rfl hL hW dX5_passesFrom_145 (fun H locs hL hW hO1 => ?_)
            have hO := hO.trans hO1
            have hW := MW.cast (S1 := uS S 14 (nI ((i + 1) + 0))) hW ⟨rfl, rfl, rfl, rfl, rfl, rfl, rfl, rfl, rfl, rfl, rfl, rfl, rfl, rfl, rfl, rfl, rfl⟩
            refine lv_iload hx hb dX5_passesFrom_148 (lv_at hl 4 rfl) ?_
            refine b_ifne (tgt := 158) X dX5_passesFrom_150 (by decide) (fun c_150 => ?_) (fun c_150 => ?_)
            ·
              exact absurd (c_136.symm.trans c_150) (by decide)
            ·
              refine lv_iload_n hx hb dX5_passesFrom_153 rfl (lv_at hl 2 rfl) ?_
              refine lv_iload_n hx hb dX5_passesFrom_154 rfl (lv_at hl 1 rfl) ?_
              refine lv_icmp_lt (tgt := 162) hx hb dX5_passesFrom_155 (by decide) (fun c_155 => ?_) (fun c_155 => ?_)
              ·
                refine lv_iconst (v := nI 0) hx hb dX5_passesFrom_162 (by decide) ?_
                exact r_iret X hL rfl rfl dX5_passesFrom_163 (by omega) (by omega) ⟨i + 1 + 0, (by rw [pfS_T hc, hz0]; rfl), (by omega), (by rw [pfS_T hc, hz0, decide_eq_false (nle_of_lt c_155)]; rfl), (MW.cast hW ⟨rfl, rfl, rfl, rfl, rfl, rfl, rfl, rfl, rfl, rfl, rfl, rfl, rfl, rfl, rfl, rfl, rfl⟩), hO⟩
              ·
                refine lv_iconst (v := nI 1) hx hb dX5_passesFrom_158 (by decide) ?_
                refine lv_goto (tgt := 163) hx hb dX5_passesFrom_159 (by decide) ?_
                exact r_iret X hL rfl rfl dX5_passesFrom_163 (by omega) (by omega) ⟨i + 1 + 0, (by rw [pfS_T hc, hz0]; rfl), (by omega), (by rw [pfS_T hc, hz0, decide_eq_true (le_of_nlt c_155)]; rfl), (MW.cast hW ⟨rfl, rfl, rfl, rfl, rfl, rfl, rfl, rfl, rfl, rfl, rfl, rfl, rfl, rfl, rfl, rfl, rfl⟩), hO⟩
          ·
            have hz1 : goB (dgI (S.1 4) n i) (dgI (S.1 4) n (i + 1)) t = true := hz.symm.trans c_136
            have hgl := go_lt hz1
            refine lv_iconst (v := nI 1) hx hb dX5_passesFrom_139 (by decide) ?_
            refine lv_goto (tgt := 144) hx hb dX5_passesFrom_140 (by decide) ?_
            refine n_iadd X dX5_passesFrom_144 ?_
            refine mp_121 X rfl hL hW dX5_passesFrom_145 (fun H locs hL hW hO1 => ?_)
            have hO := hO.trans hO1
            have hW := MW.cast (S1 := uS S 14 (nI ((i + 1) + 1))) hW ⟨rfl, rfl, rfl, rfl, rfl, rfl, rfl, rfl, rfl, rfl, rfl, rfl, rfl, rfl, rfl, rfl, rfl⟩
            refine lv_iload hx hb dX5_passesFrom_148 (lv_at hl 4 rfl) ?_
            refine b_ifne (tgt := 158) X dX5_passesFrom_150 (by decide) (fun c_150 => ?_) (fun c_150 => ?_)
            ·
              refine lv_iconst (v := nI 1) hx hb dX5_passesFrom_158 (by decide) ?_
              refine lv_goto (tgt := 163) hx hb dX5_passesFrom_159 (by decide) ?_
              exact r_iret X hL rfl rfl dX5_passesFrom_163 (by omega) (by omega) ⟨i + 1 + 1, (by rw [pfS_T hc, hz1]; rfl), (by omega), (by rw [pfS_T hc, hz1]; rfl), (MW.cast hW ⟨rfl, rfl, rfl, rfl, rfl, rfl, rfl, rfl, rfl, rfl, rfl, rfl, rfl, rfl, rfl, rfl, rfl⟩), hO⟩
            ·
              exact absurd (c_136.symm.trans c_150) (by decide)
        refine lv_iload_n hx hb dX5_passesFrom_98 rfl (lv_at hl 2 rfl) ?_
        refine lv_if_le (tgt := 126) hx hb dX5_passesFrom_99 (by decide) (fun c_99 => ?_) (fun c_99 => ?_)
        ·
          refine lv_iconst (v := nI 0) hx hb dX5_passesFrom_126 (by decide) ?_
          refine lv_istore (lv' := [(4, .int _), (0, .ref _), (1, .int _), (2, .int _), (3, .int _)]) hx hb dX5_passesFrom_127 hl (by decide) rfl (fun ls hl => ?_)
          exact C129 false (by unfold goB; rw [decide_eq_false (nlt_of_le c_99)]; rfl) _ hW hO _ hL ls (lv_sub hl [1, 2, 3, 4, 0] rfl)
        ·
          refine lv_iload_n hx hb dX5_passesFrom_102 rfl (lv_at hl 3 rfl) ?_
          refine lv_iconst (v := nI 0) hx hb dX5_passesFrom_103 (by decide) ?_
          refine lv_bipush (v := nI 9) hx hb dX5_passesFrom_104 (by decide) ?_
          refine Cp.callS (v := .int (bI (inB (dgI (S.1 4) n (i + 1)) (nI 0) (nI 9)))) (ct_X5_in l g (dgI (S.1 4) n (i + 1)) (nI 0) (nI 9) ) X hL hl sb_X5_in q1885 rfl rfl (Nat.le_of_ble_eq_true rfl) dX5_passesFrom_106 ⟨Nat.le_of_ble_eq_true rfl, Nat.le_of_ble_eq_true rfl⟩ (by omega) (by omega) trivial (fun locs hL => ?_)
          refine b_ifeq (tgt := 126) X dX5_passesFrom_109 (by decide) (fun c_109 => ?_) (fun c_109 => ?_)
          ·
            refine lv_iconst (v := nI 0) hx hb dX5_passesFrom_126 (by decide) ?_
            refine lv_istore (lv' := [(4, .int _), (0, .ref _), (1, .int _), (2, .int _), (3, .int _)]) hx hb dX5_passesFrom_127 hl (by decide) rfl (fun ls hl => ?_)
            exact C129 false (by unfold goB; rw [c_109, Bool.false_and, Bool.and_false]) _ hW hO _ hL ls (lv_sub hl [1, 2, 3, 4, 0] rfl)
          ·
            refine lv_bipush (v := nI 10) hx hb dX5_passesFrom_112 (by decide) ?_
            refine lv_iload_n hx hb dX5_passesFrom_114 rfl (lv_at hl 2 rfl) ?_
            refine lv_imul hx hb dX5_passesFrom_115 ?_
            refine lv_iload_n hx hb dX5_passesFrom_116 rfl (lv_at hl 3 rfl) ?_
            refine lv_iadd hx hb dX5_passesFrom_117 ?_
            refine lv_iload_n hx hb dX5_passesFrom_118 rfl (lv_at hl 1 rfl) ?_
            refine lv_icmp_lt (tgt := 126) hx hb dX5_passesFrom_119 (by decide) (fun c_119 => ?_) (fun c_119 => ?_)
            ·
              refine lv_iconst (v := nI 0) hx hb dX5_passesFrom_126 (by decide) ?_
              refine lv_istore (lv' := [(4, .int _), (0, .ref _), (1, .int _), (2, .int _), (3, .int _)]) hx hb dX5_passesFrom_127 hl (by decide) rfl (fun ls hl => ?_)
              exact C129 false (by unfold goB; rw [decide_eq_false (nle_of_lt c_119), Bool.and_false, Bool.and_false]) _ hW hO _ hL ls (lv_sub hl [1, 2, 3, 4, 0] rfl)
            ·
              refine lv_iconst (v := nI 1) hx hb dX5_passesFrom_122 (by decide) ?_
              refine lv_goto (tgt := 127) hx hb dX5_passesFrom_123 (by decide) ?_
              refine lv_istore (lv' := [(4, .int _), (0, .ref _), (1, .int _), (2, .int _), (3, .int _)]) hx hb dX5_passesFrom_127 hl (by decide) rfl (fun ls hl => ?_)
              exact C129 true (by unfold goB; rw [c_109, decide_eq_true (le_of_nlt c_119), decide_eq_true (lt_of_nle c_99)]; rfl) _ hW hO _ hL ls (lv_sub hl [1, 2, 3, 4, 0] rfl)
      refine lv_aload_n hx hb dX5_passesFrom_60 rfl (lv_at hl 0 rfl) ?_
      refine lv_dup hx hb dX5_passesFrom_61 rfl ?_
      refine mg_121 X rfl hW dX5_passesFrom_62 (W.stk (w := (nI i)) hat ?_)
      refine lv_iconst (v := nI 1) hx hb dX5_passesFrom_65 (by decide) ?_
      refine n_iadd X dX5_passesFrom_66 ?_
      refine mp_121 X rfl hL hW dX5_passesFrom_67 (fun H locs hL hW hO1 => ?_)
      have hO := hO.trans hO1
      have hW := MW.cast (S1 := uS S 14 (nI (i + 1))) hW ⟨rfl, rfl, rfl, rfl, rfl, rfl, rfl, rfl, rfl, rfl, rfl, rfl, rfl, rfl, rfl, rfl, rfl⟩
      refine lv_aload_n hx hb dX5_passesFrom_70 rfl (lv_at hl 0 rfl) ?_
      refine mg_121 X rfl hW dX5_passesFrom_71 (W.stk (w := (nI (i + 1))) rfl ?_)
      refine lv_aload_n hx hb dX5_passesFrom_74 rfl (lv_at hl 0 rfl) ?_
      refine mg_118 X rfl hW dX5_passesFrom_75 (W.stk (w := (nI n)) hln ?_)
      refine n_icmp_ge (tgt := 96) X dX5_passesFrom_78 (by decide) (by omega) (by omega) (fun c_78 => ?_) (fun c_78 => ?_)
      ·
        refine lv_iconst (v := (-1)) hx hb dX5_passesFrom_96 (by decide) ?_
        refine W.stk (w := (dgI (S.1 4) n (i + 1))) (if_neg (by omega)).symm ?_
        refine lv_istore_n (lv' := [(3, .int _), (0, .ref _), (1, .int _), (2, .int _)]) hx hb dX5_passesFrom_97 rfl hl (by decide) rfl (fun ls hl => ?_)
        exact C98 _ hW hO _ hL ls (lv_sub hl [1, 2, 3, 0] rfl)
      ·
        refine lv_aload_n hx hb dX5_passesFrom_81 rfl (lv_at hl 0 rfl) ?_
        refine mg_22 X rfl hW dX5_passesFrom_82 ?_
        refine lv_aload_n hx hb dX5_passesFrom_85 rfl (lv_at hl 0 rfl) ?_
        refine mg_121 X rfl hW dX5_passesFrom_86 (W.stk (w := (nI (i + 1))) rfl ?_)
        refine m_ld (v := ((S.1 4) (i + 1))) X hW 4 (by decide) rfl (i + 1) rfl (by show i + 1 < 60; omega) rfl dX5_passesFrom_89 ?_
        refine lv_bipush (v := nI 48) hx hb dX5_passesFrom_90 (by decide) ?_
        refine lv_isub hx hb dX5_passesFrom_92 ?_
        refine W.stk (w := (dgI (S.1 4) n (i + 1))) (if_pos c_78).symm ?_
        refine lv_goto (tgt := 97) hx hb dX5_passesFrom_93 (by decide) ?_
        refine lv_istore_n (lv' := [(3, .int _), (0, .ref _), (1, .int _), (2, .int _)]) hx hb dX5_passesFrom_97 rfl hl (by decide) rfl (fun ls hl => ?_)
        exact C98 _ hW hO _ hL ls (lv_sub hl [1, 2, 3, 0] rfl)
    refine lv_iload_n hx hb dX5_passesFrom_28 rfl (lv_at hl 2 rfl) ?_
    refine lv_iconst (v := nI 0) hx hb dX5_passesFrom_29 (by decide) ?_
    refine lv_bipush (v := nI 9) hx hb dX5_passesFrom_30 (by decide) ?_
    refine Cp.callS (v := .int (bI (inB (dgI (S.1 4) n i) (nI 0) (nI 9)))) (ct_X5_in l g (dgI (S.1 4) n i) (nI 0) (nI 9) ) X hL hl sb_X5_in q1885 rfl rfl (Nat.le_of_ble_eq_true rfl) dX5_passesFrom_32 ⟨Nat.le_of_ble_eq_true rfl, Nat.le_of_ble_eq_true rfl⟩ (by omega) (by omega) trivial (fun locs hL => ?_)
    refine b_ifeq (tgt := 58) X dX5_passesFrom_35 (by decide) (fun c_35 => ?_) (fun c_35 => ?_)
    ·
      refine lv_iconst (v := nI 0) hx hb dX5_passesFrom_58 (by decide) ?_
      exact r_iret X hL rfl rfl dX5_passesFrom_59 (by omega) (by omega) ⟨i, (by rw [(pfS_F (by simp [c_35]))]), hi, (by rw [(pfS_F (by simp [c_35]))]; rfl), (MW.cast hW ⟨rfl, rfl, rfl, rfl, rfl, rfl, rfl, rfl, rfl, rfl, rfl, rfl, rfl, rfl, hat, rfl, rfl⟩), hO⟩
    ·
      refine lv_iload_n hx hb dX5_passesFrom_38 rfl (lv_at hl 2 rfl) ?_
      refine lv_iload_n hx hb dX5_passesFrom_39 rfl (lv_at hl 1 rfl) ?_
      refine lv_icmp_ge (tgt := 60) hx hb dX5_passesFrom_40 (by decide) (fun c_40 => ?_) (fun c_40 => ?_)
      ·
        exact C60 (by rw [c_35, decide_eq_true c_40]; rfl) _ hL ls (lv_sub hl [0, 1, 2] rfl)
      ·
        refine lv_iload_n hx hb dX5_passesFrom_43 rfl (lv_at hl 2 rfl) ?_
        refine lv_if_eq (tgt := 58) hx hb dX5_passesFrom_44 (by decide) (fun c_44 => ?_) (fun c_44 => ?_)
        ·
          refine lv_iconst (v := nI 0) hx hb dX5_passesFrom_58 (by decide) ?_
          exact r_iret X hL rfl rfl dX5_passesFrom_59 (by omega) (by omega) ⟨i, (by rw [(pfS_F (by rw [decide_eq_false c_40, decide_eq_false (fun h : _ ≠ _ => h c_44)]; simp))]), hi, (by rw [(pfS_F (by rw [decide_eq_false c_40, decide_eq_false (fun h : _ ≠ _ => h c_44)]; simp))]; rfl), (MW.cast hW ⟨rfl, rfl, rfl, rfl, rfl, rfl, rfl, rfl, rfl, rfl, rfl, rfl, rfl, rfl, hat, rfl, rfl⟩), hO⟩
        ·
          refine lv_bipush (v := nI 10) hx hb dX5_passesFrom_47 (by decide) ?_
          refine lv_iload_n hx hb dX5_passesFrom_49 rfl (lv_at hl 2 rfl) ?_
          refine lv_imul hx hb dX5_passesFrom_50 ?_
          refine lv_bipush (v := nI 9) hx hb dX5_passesFrom_51 (by decide) ?_
          refine lv_iadd hx hb dX5_passesFrom_53 ?_
          refine lv_iload_n hx hb dX5_passesFrom_54 rfl (lv_at hl 1 rfl) ?_
          refine lv_icmp_ge (tgt := 60) hx hb dX5_passesFrom_55 (by decide) (fun c_55 => ?_) (fun c_55 => ?_)
          ·
            exact C60 (by rw [c_35, decide_eq_true c_55, decide_eq_true c_44, Bool.and_self, Bool.or_true]; rfl) _ hL ls (lv_sub hl [0, 1, 2] rfl)
          ·
            refine lv_iconst (v := nI 0) hx hb dX5_passesFrom_58 (by decide) ?_
            exact r_iret X hL rfl rfl dX5_passesFrom_59 (by omega) (by omega) ⟨i, (by rw [(pfS_F (by simp [c_55, nle_of_lt (lt_of_nle c_40)]))]), hi, (by rw [(pfS_F (by simp [c_55, nle_of_lt (lt_of_nle c_40)]))]; rfl), (MW.cast hW ⟨rfl, rfl, rfl, rfl, rfl, rfl, rfl, rfl, rfl, rfl, rfl, rfl, rfl, rfl, hat, rfl, rfl⟩), hO⟩
  refine lv_aload_n hx hb dX5_passesFrom_0 rfl (lv_at hl 0 rfl) ?_
  refine mg_121 X rfl hW dX5_passesFrom_1 (W.stk (w := (nI i)) hat ?_)
  refine lv_aload_n hx hb dX5_passesFrom_4 rfl (lv_at hl 0 rfl) ?_
  refine mg_118 X rfl hW dX5_passesFrom_5 (W.stk (w := (nI n)) hln ?_)
  refine n_icmp_ge (tgt := 26) X dX5_passesFrom_8 (by decide) (by omega) (by omega) (fun c_8 => ?_) (fun c_8 => ?_)
  ·
    refine lv_iconst (v := (-1)) hx hb dX5_passesFrom_26 (by decide) ?_
    refine W.stk (w := (dgI (S.1 4) n i)) (if_neg (by omega)).symm ?_
    refine lv_istore_n (lv' := [(2, .int _), (0, .ref _), (1, .int _)]) hx hb dX5_passesFrom_27 rfl hl (by decide) rfl (fun ls hl => ?_)
    exact C28  _ hL ls (lv_sub hl [1, 2, 0] rfl)
  ·
    refine lv_aload_n hx hb dX5_passesFrom_11 rfl (lv_at hl 0 rfl) ?_
    refine mg_22 X rfl hW dX5_passesFrom_12 ?_
    refine lv_aload_n hx hb dX5_passesFrom_15 rfl (lv_at hl 0 rfl) ?_
    refine mg_121 X rfl hW dX5_passesFrom_16 (W.stk (w := (nI i)) hat ?_)
    refine m_ld (v := ((S.1 4) i)) X hW 4 (by decide) rfl i rfl (by show i < 60; omega) rfl dX5_passesFrom_19 ?_
    refine lv_bipush (v := nI 48) hx hb dX5_passesFrom_20 (by decide) ?_
    refine lv_isub hx hb dX5_passesFrom_22 ?_
    refine W.stk (w := (dgI (S.1 4) n i)) (if_pos c_8).symm ?_
    refine lv_goto (tgt := 27) hx hb dX5_passesFrom_23 (by decide) ?_
    refine lv_istore_n (lv' := [(2, .int _), (0, .ref _), (1, .int _)]) hx hb dX5_passesFrom_27 rfl hl (by decide) rfl (fun ls hl => ?_)
    exact C28  _ hL ls (lv_sub hl [1, 2, 0] rfl)
theorem vb_X5_passesFrom : VB yX5_passesFrom cX5_passesFrom 5 (some .boolean) 1 := ⟨q2009, qs73, q111, q2010, ⟨by decide, by decide, by decide +kernel⟩⟩

set_option maxRecDepth 100000 in
set_option maxHeartbeats 4000000 in
theorem ct_X5_passesBounds (l : Launch) (g : GT) (o n i : Nat) (S : MS) (hln : S.2.1 13 = nI n) (hat : S.2.1 14 = nI i) (hn6 : n ≤ 60) (hi : i ≤ n) : Ct l g yX5_passesBounds cX5_passesBounds 4 (some .boolean) 5 0 0 [.ref o] (MW g o S) (fun r H H1 => ∃ (j : Nat), (j = (pbS (S.1 4) n i).2) ∧ (j ≤ n) ∧ r = some (.int (bI ((pbS (S.1 4) n i).1))) ∧ MW g o (uS S 14 (nI j)) H1 ∧ Off o H H1) := by
  refine Ct.of (by decide) (Nat.le_of_ble_eq_true rfl) ?_
  intro p e s m args below meth c X hP ls hl
  have hx := X.1
  have hb := X.2.1
  have hKV := X.2.2.2.2.2.2.2.1.1
  have hL : ∀ q ∈ ([] : List Loc), gLo g ≤ q.base := fun _ h => by cases h
  have hl : lv_has ls 4 [(0, .ref o)] := hl
  have hW : MW g o S s.heap := hP
  have hO : Off o s.heap s.heap := Off.rfl'
  refine lv_aload_n hx hb dX5_passesBounds_0 rfl (lv_at hl 0 rfl) ?_
  refine lv_bipush (v := nI 48) hx hb dX5_passesBounds_1 (by decide) ?_
  refine lv_bipush (v := nI 51) hx hb dX5_passesBounds_3 (by decide) ?_
  refine Ct.callV (ct_X5_passes l g o n i 48 51 S hln hat (by omega) (by omega)) X hL hl vb_X5_passes q1991 (hW.2.1.recv hKV rfl) rfl rfl (Nat.le_of_ble_eq_true rfl) dX5_passesBounds_5 ⟨Nat.le_of_ble_eq_true rfl, Nat.le_of_ble_eq_true rfl⟩ (by omega) (by omega) hW (fun r H1 locs hL hp => ?_)
  obtain ⟨j_5, hj_5, hjn_5, rfl, hW, hO1⟩ := hp
  have hO := hO.trans hO1
  have hj_5 : j_5 = (pS (S.1 4) n i 48 51).2 := hj_5
  have hjn_5 : j_5 ≤ n := hjn_5
  have hW := MW.cast (S1 := uS S 14 (nI j_5)) hW ⟨rfl, rfl, rfl, rfl, rfl, rfl, rfl, rfl, rfl, rfl, rfl, rfl, rfl, rfl, rfl, rfl, rfl⟩
  refine W.stk (w := (bI ((pS (S.1 4) n i 48 51).1))) rfl ?_
  refine b_ifeq (tgt := 22) X dX5_passesBounds_8 (by decide) (fun c_8 => ?_) (fun c_8 => ?_)
  ·
    refine lv_iconst (v := nI 0) hx hb dX5_passesBounds_22 (by decide) ?_
    exact r_iret X hL rfl rfl dX5_passesBounds_23 (by omega) (by omega) ⟨j_5, (by simp only [pbS, thB, if_true, if_false, Bool.false_eq_true, c_8, ← hj_5]), (by omega), (by rw [show (pbS (S.1 4) n i).1 = false from by simp only [pbS, thB, if_true, if_false, Bool.false_eq_true, c_8, ← hj_5]]; rfl), (MW.cast hW ⟨rfl, rfl, rfl, rfl, rfl, rfl, rfl, rfl, rfl, rfl, rfl, rfl, rfl, rfl, rfl, rfl, rfl⟩), hO⟩
  ·
    refine lv_aload_n hx hb dX5_passesBounds_11 rfl (lv_at hl 0 rfl) ?_
    refine lv_bipush (v := nI 61) hx hb dX5_passesBounds_12 (by decide) ?_
    refine lv_bipush (v := nI 61) hx hb dX5_passesBounds_14 (by decide) ?_
    refine Ct.callV (ct_X5_passes l g o n j_5 61 61 (uS S 14 (nI j_5)) hln rfl (by omega) (by omega)) X hL hl vb_X5_passes q1991 (hW.2.1.recv hKV rfl) rfl rfl (Nat.le_of_ble_eq_true rfl) dX5_passesBounds_16 ⟨Nat.le_of_ble_eq_true rfl, Nat.le_of_ble_eq_true rfl⟩ (by omega) (by omega) hW (fun r H1 locs hL hp => ?_)
    obtain ⟨j_16, hj_16, hjn_16, rfl, hW, hO1⟩ := hp
    have hO := hO.trans hO1
    have hj_16 : j_16 = (pS (S.1 4) n j_5 61 61).2 := hj_16
    have hjn_16 : j_16 ≤ n := hjn_16
    have hW := MW.cast (S1 := uS S 14 (nI j_16)) hW ⟨rfl, rfl, rfl, rfl, rfl, rfl, rfl, rfl, rfl, rfl, rfl, rfl, rfl, rfl, rfl, rfl, rfl⟩
    refine W.stk (w := (bI ((pS (S.1 4) n j_5 61 61).1))) rfl ?_
    refine b_ifne (tgt := 24) X dX5_passesBounds_19 (by decide) (fun c_19 => ?_) (fun c_19 => ?_)
    ·
      refine lv_aload_n hx hb dX5_passesBounds_24 rfl (lv_at hl 0 rfl) ?_
      refine mg_121 X rfl hW dX5_passesBounds_25 (W.stk (w := (nI j_16)) rfl ?_)
      refine lv_istore_n (lv' := [(1, .int _), (0, .ref _)]) hx hb dX5_passesBounds_28 rfl hl (by decide) rfl (fun ls hl => ?_)
      refine lv_aload_n hx hb dX5_passesBounds_29 rfl (lv_at hl 1 rfl) ?_
      refine lv_bipush (v := nI 99) hx hb dX5_passesBounds_30 (by decide) ?_
      refine Ct.callV (ct_X5_passesNumber l g o n j_16 99 (uS S 14 (nI j_16)) hln rfl (by omega) (by omega)) X hL hl vb_X5_passesNumber q1999 (hW.2.1.recv hKV rfl) rfl rfl (Nat.le_of_ble_eq_true rfl) dX5_passesBounds_32 ⟨Nat.le_of_ble_eq_true rfl, Nat.le_of_ble_eq_true rfl⟩ (by omega) (by omega) hW (fun r H1 locs hL hp => ?_)
      obtain ⟨j_32, hj_32, hjn_32, rfl, hW, hO1⟩ := hp
      have hO := hO.trans hO1
      have hj_32 : j_32 = (pnS (S.1 4) n j_16 99).2 := hj_32
      have hjn_32 : j_32 ≤ n := hjn_32
      have hW := MW.cast (S1 := uS S 14 (nI j_32)) hW ⟨rfl, rfl, rfl, rfl, rfl, rfl, rfl, rfl, rfl, rfl, rfl, rfl, rfl, rfl, rfl, rfl, rfl⟩
      refine W.stk (w := (bI ((pnS (S.1 4) n j_16 99).1))) rfl ?_
      refine b_ifne (tgt := 40) X dX5_passesBounds_35 (by decide) (fun c_35 => ?_) (fun c_35 => ?_)
      ·
        have hpn := (pnS_b (f := S.1 4) (t := 99) hjn_16).1
        rw [← hj_32] at hpn
        refine lv_iconst (v := nI 0) hx hb dX5_passesBounds_40 (by decide) ?_
        refine lv_istore_n (lv' := [(2, .int _), (1, .int _), (0, .ref _)]) hx hb dX5_passesBounds_41 rfl hl (by decide) rfl (fun ls hl => ?_)
        refine lv_iload_n hx hb dX5_passesBounds_42 rfl (lv_at hl 1 rfl) ?_
        refine lv_istore_n (lv' := [(3, .int _), (2, .int _), (1, .int _), (0, .ref _)]) hx hb dX5_passesBounds_43 rfl hl (by decide) rfl (fun ls hl => ?_)
        have L44 : ∀ (fuel : Nat) (v : Int32) (u : Nat), j_32 - (j_16 + u) < fuel → (v = numI (S.1 4) j_16 u) → (j_16 + u ≤ j_32) → ∀ (locs : List Loc), (∀ q ∈ locs, gLo g ≤ q.base) → ∀ (ls : Array Slot), lv_has ls 4 [(0, .ref o), (1, .int (nI j_16)), (2, .int v), (3, .int (nI (j_16 + u)))] → W p l e (rmL 5 0 0) s m args below meth c H1 locs 0 0 (MQ below (Qcg (fun r H H1 => ∃ (j : Nat), (j = (pbS (S.1 4) n i).2) ∧ (j ≤ n) ∧ r = some (.int (bI ((pbS (S.1 4) n i).1))) ∧ MW g o (uS S 14 (nI j)) H1 ∧ Off o H H1)) args s 0 0 (fre g)) (F0 m 44 ls []) := by
          intro fuel
          induction fuel with
          | zero => intro v u hfu; exact absurd hfu (Nat.not_lt_zero _)
          | succ fuel ih44 =>
            intro v u hfu hv hu  locs hL ls hl
            refine lv_iload_n hx hb dX5_passesBounds_44 rfl (lv_at hl 3 rfl) ?_
            refine lv_aload_n hx hb dX5_passesBounds_45 rfl (lv_at hl 0 rfl) ?_
            refine mg_121 X rfl hW dX5_passesBounds_46 (W.stk (w := (nI j_32)) rfl ?_)
            refine n_icmp_ge (tgt := 73) X dX5_passesBounds_49 (by decide) (by omega) (by omega) (fun c_49 => ?_) (fun c_49 => ?_)
            ·
              have hu9 : u = j_32 - j_16 := by omega
              subst hu9
              refine lv_aload_n hx hb dX5_passesBounds_73 rfl (lv_at hl 0 rfl) ?_
              refine lv_bipush (v := nI 45) hx hb dX5_passesBounds_74 (by decide) ?_
              refine lv_bipush (v := nI 45) hx hb dX5_passesBounds_76 (by decide) ?_
              refine Ct.callV (ct_X5_passes l g o n j_32 45 45 (uS S 14 (nI j_32)) hln rfl (by omega) (by omega)) X hL hl vb_X5_passes q1991 (hW.2.1.recv hKV rfl) rfl rfl (Nat.le_of_ble_eq_true rfl) dX5_passesBounds_78 ⟨Nat.le_of_ble_eq_true rfl, Nat.le_of_ble_eq_true rfl⟩ (by omega) (by omega) hW (fun r H1 locs hL hp => ?_)
              obtain ⟨j_78, hj_78, hjn_78, rfl, hW, hO1⟩ := hp
              have hO := hO.trans hO1
              have hj_78 : j_78 = (pS (S.1 4) n j_32 45 45).2 := hj_78
              have hjn_78 : j_78 ≤ n := hjn_78
              have hW := MW.cast (S1 := uS S 14 (nI j_78)) hW ⟨rfl, rfl, rfl, rfl, rfl, rfl, rfl, rfl, rfl, rfl, rfl, rfl, rfl, rfl, rfl, rfl, rfl⟩
              refine W.stk (w := (bI ((pS (S.1 4) n j_32 45 45).1))) rfl ?_
              refine b_ifeq (tgt := 96) X dX5_passesBounds_81 (by decide) (fun c_81 => ?_) (fun c_81 => ?_)
              ·
                refine lv_iconst (v := nI 0) hx hb dX5_passesBounds_96 (by decide) ?_
                exact r_iret X hL rfl rfl dX5_passesBounds_97 (by omega) (by omega) ⟨j_78, (by simp only [pbS, thB, ← hv, if_true, if_false, Bool.false_eq_true, c_8, c_19, c_35, c_49, c_81, ← hj_5, ← hj_16, ← hj_32, ← hj_78]), (by omega), (by rw [show (pbS (S.1 4) n i).1 = false from by simp only [pbS, thB, ← hv, if_true, if_false, Bool.false_eq_true, c_8, c_19, c_35, c_49, c_81, ← hj_5, ← hj_16, ← hj_32, ← hj_78]]; rfl), (MW.cast hW ⟨rfl, rfl, rfl, rfl, rfl, rfl, rfl, rfl, rfl, rfl, rfl, rfl, rfl, rfl, rfl, rfl, rfl⟩), hO⟩
              ·
                refine lv_aload_n hx hb dX5_passesBounds_84 rfl (lv_at hl 0 rfl) ?_
                refine lv_iload_n hx hb dX5_passesBounds_85 rfl (lv_at hl 2 rfl) ?_
                refine Ct.callV (ct_X5_passesFrom l g o n j_78 (uS S 14 (nI j_78)) v hln rfl (by omega) (by omega)) X hL hl vb_X5_passesFrom q2007 (hW.2.1.recv hKV rfl) rfl rfl (Nat.le_of_ble_eq_true rfl) dX5_passesBounds_86 ⟨Nat.le_of_ble_eq_true rfl, Nat.le_of_ble_eq_true rfl⟩ (by omega) (by omega) hW (fun r H1 locs hL hp => ?_)
                obtain ⟨j_86, hj_86, hjn_86, rfl, hW, hO1⟩ := hp
                have hO := hO.trans hO1
                have hj_86 : j_86 = (pfS (S.1 4) n j_78 v).2 := hj_86
                have hjn_86 : j_86 ≤ n := hjn_86
                have hW := MW.cast (S1 := uS S 14 (nI j_86)) hW ⟨rfl, rfl, rfl, rfl, rfl, rfl, rfl, rfl, rfl, rfl, rfl, rfl, rfl, rfl, rfl, rfl, rfl⟩
                refine W.stk (w := (bI ((pfS (S.1 4) n j_78 v).1))) rfl ?_
                refine b_ifeq (tgt := 96) X dX5_passesBounds_89 (by decide) (fun c_89 => ?_) (fun c_89 => ?_)
                ·
                  refine lv_iconst (v := nI 0) hx hb dX5_passesBounds_96 (by decide) ?_
                  exact r_iret X hL rfl rfl dX5_passesBounds_97 (by omega) (by omega) ⟨j_86, (by simp only [pbS, thB, ← hv, if_true, if_false, Bool.false_eq_true, c_8, c_19, c_35, c_49, c_81, c_89, ← hj_5, ← hj_16, ← hj_32, ← hj_78, ← hj_86]), (by omega), (by rw [show (pbS (S.1 4) n i).1 = false from by simp only [pbS, thB, ← hv, if_true, if_false, Bool.false_eq_true, c_8, c_19, c_35, c_49, c_81, c_89, ← hj_5, ← hj_16, ← hj_32, ← hj_78, ← hj_86]]; rfl), (MW.cast hW ⟨rfl, rfl, rfl, rfl, rfl, rfl, rfl, rfl, rfl, rfl, rfl, rfl, rfl, rfl, rfl, rfl, rfl⟩), hO⟩
                ·
                  refine lv_iconst (v := nI 1) hx hb dX5_passesBounds_92 (by decide) ?_
                  refine lv_goto (tgt := 97) hx hb dX5_passesBounds_93 (by decide) ?_
                  exact r_iret X hL rfl rfl dX5_passesBounds_97 (by omega) (by omega) ⟨j_86, (by simp only [pbS, thB, ← hv, if_true, if_false, Bool.false_eq_true, c_8, c_19, c_35, c_49, c_81, c_89, ← hj_5, ← hj_16, ← hj_32, ← hj_78, ← hj_86]), (by omega), (by rw [show (pbS (S.1 4) n i).1 = true from by simp only [pbS, thB, ← hv, if_true, if_false, Bool.false_eq_true, c_8, c_19, c_35, c_49, c_81, c_89, ← hj_5, ← hj_16, ← hj_32, ← hj_78, ← hj_86]]; rfl), (MW.cast hW ⟨rfl, rfl, rfl, rfl, rfl, rfl, rfl, rfl, rfl, rfl, rfl, rfl, rfl, rfl, rfl, rfl, rfl⟩), hO⟩
            ·
              refine lv_bipush (v := nI 10) hx hb dX5_passesBounds_52 (by decide) ?_
              refine lv_iload_n hx hb dX5_passesBounds_54 rfl (lv_at hl 2 rfl) ?_
              refine lv_imul hx hb dX5_passesBounds_55 ?_
              refine lv_aload_n hx hb dX5_passesBounds_56 rfl (lv_at hl 0 rfl) ?_
              refine mg_22 X rfl hW dX5_passesBounds_57 ?_
              refine lv_iload_n hx hb dX5_passesBounds_60 rfl (lv_at hl 3 rfl) ?_
              refine m_ld (v := ((S.1 4) (j_16 + u))) X hW 4 (by decide) rfl (j_16 + u) rfl (by show j_16 + u < 60; omega) rfl dX5_passesBounds_61 ?_
              refine lv_iadd hx hb dX5_passesBounds_62 ?_
              refine lv_bipush (v := nI 48) hx hb dX5_passesBounds_63 (by decide) ?_
              refine lv_isub hx hb dX5_passesBounds_65 ?_
              refine lv_istore_n (lv' := [(2, .int _), (0, .ref _), (1, .int _), (3, .int _)]) hx hb dX5_passesBounds_66 rfl hl (by decide) rfl (fun ls hl => ?_)
              refine lv_iinc (v := nI (j_16 + u + 1)) (lv' := [(3, .int _), (2, .int _), (0, .ref _), (1, .int _)]) hx hb dX5_passesBounds_67 hl (k := 3) rfl (nI_iinc _ 1 rfl) (by decide) rfl (fun ls hl => ?_)
              refine lv_goto (tgt := 44) hx hb dX5_passesBounds_70 (by decide) ?_
              exact ih44 (nI 10 * v + S.1 4 (j_16 + u) - nI 48) (u + 1) (by omega) (by rw [hv]; rfl) (by omega) _ hL ls (lv_sub hl [2, 3, 1, 0] rfl)
        exact L44 (j_32 + 1) (nI 0) 0 (by omega) rfl (by omega) _ hL ls (lv_sub hl [3, 2, 1, 0] rfl)
      ·
        refine lv_iconst (v := nI 0) hx hb dX5_passesBounds_38 (by decide) ?_
        exact r_iret X hL rfl rfl dX5_passesBounds_39 (by omega) (by omega) ⟨j_32, (by simp only [pbS, thB, if_true, if_false, Bool.false_eq_true, c_8, c_19, c_35, ← hj_5, ← hj_16, ← hj_32]), (by omega), (by rw [show (pbS (S.1 4) n i).1 = false from by simp only [pbS, thB, if_true, if_false, Bool.false_eq_true, c_8, c_19, c_35, ← hj_5, ← hj_16, ← hj_32]]; rfl), (MW.cast hW ⟨rfl, rfl, rfl, rfl, rfl, rfl, rfl, rfl, rfl, rfl, rfl, rfl, rfl, rfl, rfl, rfl, rfl⟩), hO⟩
    ·
      refine lv_iconst (v := nI 0) hx hb dX5_passesBounds_22 (by decide) ?_
      exact r_iret X hL rfl rfl dX5_passesBounds_23 (by omega) (by omega) ⟨j_16, (by simp only [pbS, thB, if_true, if_false, Bool.false_eq_true, c_8, c_19, ← hj_5, ← hj_16]), (by omega), (by rw [show (pbS (S.1 4) n i).1 = false from by simp only [pbS, thB, if_true, if_false, Bool.false_eq_true, c_8, c_19, ← hj_5, ← hj_16]]; rfl), (MW.cast hW ⟨rfl, rfl, rfl, rfl, rfl, rfl, rfl, rfl, rfl, rfl, rfl, rfl, rfl, rfl, rfl, rfl, rfl⟩), hO⟩
theorem vb_X5_passesBounds : VB yX5_passesBounds cX5_passesBounds 4 (some .boolean) 0 := ⟨q2005, qs72, q111, q2006, ⟨by decide, by decide, by decide +kernel⟩⟩

set_option maxRecDepth 100000 in
set_option maxHeartbeats 4000000 in
theorem ct_X5_passesPart (l : Launch) (g : GT) (o n i : Nat) (S : MS) (hln : S.2.1 13 = nI n) (hat : S.2.1 14 = nI i) (hn6 : n ≤ 60) (hi : i ≤ n) : Ct l g yX5_passesPart cX5_passesPart 1 (some .boolean) 6 0 0 [.ref o] (MW g o S) (fun r H H1 => ∃ (j : Nat), (j = (ptS (S.1 4) n i).2) ∧ (j ≤ n) ∧ r = some (.int (bI ((ptS (S.1 4) n i).1))) ∧ MW g o (uS S 14 (nI j)) H1 ∧ Off o H H1) := by
  refine Ct.of (by decide) (Nat.le_of_ble_eq_true rfl) ?_
  intro p e s m args below meth c X hP ls hl
  have hx := X.1
  have hb := X.2.1
  have hKV := X.2.2.2.2.2.2.2.1.1
  have hL : ∀ q ∈ ([] : List Loc), gLo g ≤ q.base := fun _ h => by cases h
  have hl : lv_has ls 1 [(0, .ref o)] := hl
  have hW : MW g o S s.heap := hP
  have hO : Off o s.heap s.heap := Off.rfl'
  refine lv_aload_n hx hb dX5_passesPart_0 rfl (lv_at hl 0 rfl) ?_
  refine lv_bipush (v := nI 97) hx hb dX5_passesPart_1 (by decide) ?_
  refine lv_bipush (v := nI 97) hx hb dX5_passesPart_3 (by decide) ?_
  refine Ct.callV (ct_X5_passes l g o n i 97 97 S hln hat (by omega) (by omega)) X hL hl vb_X5_passes q1991 (hW.2.1.recv hKV rfl) rfl rfl (Nat.le_of_ble_eq_true rfl) dX5_passesPart_5 ⟨Nat.le_of_ble_eq_true rfl, Nat.le_of_ble_eq_true rfl⟩ (by omega) (by omega) hW (fun r H1 locs hL hp => ?_)
  obtain ⟨j_5, hj_5, hjn_5, rfl, hW, hO1⟩ := hp
  have hO := hO.trans hO1
  have hj_5 : j_5 = (pS (S.1 4) n i 97 97).2 := hj_5
  have hjn_5 : j_5 ≤ n := hjn_5
  have hW := MW.cast (S1 := uS S 14 (nI j_5)) hW ⟨rfl, rfl, rfl, rfl, rfl, rfl, rfl, rfl, rfl, rfl, rfl, rfl, rfl, rfl, rfl, rfl, rfl⟩
  refine W.stk (w := (bI ((pS (S.1 4) n i 97 97).1))) rfl ?_
  refine b_ifeq (tgt := 86) X dX5_passesPart_8 (by decide) (fun c_8 => ?_) (fun c_8 => ?_)
  ·
    refine lv_aload_n hx hb dX5_passesPart_86 rfl (lv_at hl 0 rfl) ?_
    refine lv_bipush (v := nI 114) hx hb dX5_passesPart_87 (by decide) ?_
    refine lv_bipush (v := nI 114) hx hb dX5_passesPart_89 (by decide) ?_
    refine Ct.callV (ct_X5_passes l g o n j_5 114 114 (uS S 14 (nI j_5)) hln rfl (by omega) (by omega)) X hL hl vb_X5_passes q1991 (hW.2.1.recv hKV rfl) rfl rfl (Nat.le_of_ble_eq_true rfl) dX5_passesPart_91 ⟨Nat.le_of_ble_eq_true rfl, Nat.le_of_ble_eq_true rfl⟩ (by omega) (by omega) hW (fun r H1 locs hL hp => ?_)
    obtain ⟨j_91, hj_91, hjn_91, rfl, hW, hO1⟩ := hp
    have hO := hO.trans hO1
    have hj_91 : j_91 = (pS (S.1 4) n j_5 114 114).2 := hj_91
    have hjn_91 : j_91 ≤ n := hjn_91
    have hW := MW.cast (S1 := uS S 14 (nI j_91)) hW ⟨rfl, rfl, rfl, rfl, rfl, rfl, rfl, rfl, rfl, rfl, rfl, rfl, rfl, rfl, rfl, rfl, rfl⟩
    refine W.stk (w := (bI ((pS (S.1 4) n j_5 114 114).1))) rfl ?_
    refine b_ifeq (tgt := 104) X dX5_passesPart_94 (by decide) (fun c_94 => ?_) (fun c_94 => ?_)
    ·
      refine lv_aload_n hx hb dX5_passesPart_104 rfl (lv_at hl 0 rfl) ?_
      refine lv_bipush (v := nI 119) hx hb dX5_passesPart_105 (by decide) ?_
      refine lv_bipush (v := nI 119) hx hb dX5_passesPart_107 (by decide) ?_
      refine Ct.callV (ct_X5_passes l g o n j_91 119 119 (uS S 14 (nI j_91)) hln rfl (by omega) (by omega)) X hL hl vb_X5_passes q1991 (hW.2.1.recv hKV rfl) rfl rfl (Nat.le_of_ble_eq_true rfl) dX5_passesPart_109 ⟨Nat.le_of_ble_eq_true rfl, Nat.le_of_ble_eq_true rfl⟩ (by omega) (by omega) hW (fun r H1 locs hL hp => ?_)
      obtain ⟨j_109, hj_109, hjn_109, rfl, hW, hO1⟩ := hp
      have hO := hO.trans hO1
      have hj_109 : j_109 = (pS (S.1 4) n j_91 119 119).2 := hj_109
      have hjn_109 : j_109 ≤ n := hjn_109
      have hW := MW.cast (S1 := uS S 14 (nI j_109)) hW ⟨rfl, rfl, rfl, rfl, rfl, rfl, rfl, rfl, rfl, rfl, rfl, rfl, rfl, rfl, rfl, rfl, rfl⟩
      refine W.stk (w := (bI ((pS (S.1 4) n j_91 119 119).1))) rfl ?_
      refine b_ifeq (tgt := 165) X dX5_passesPart_112 (by decide) (fun c_112 => ?_) (fun c_112 => ?_)
      ·
        refine lv_aload_n hx hb dX5_passesPart_165 rfl (lv_at hl 0 rfl) ?_
        refine lv_bipush (v := nI 98) hx hb dX5_passesPart_166 (by decide) ?_
        refine lv_bipush (v := nI 98) hx hb dX5_passesPart_168 (by decide) ?_
        refine Ct.callV (ct_X5_passes l g o n j_109 98 98 (uS S 14 (nI j_109)) hln rfl (by omega) (by omega)) X hL hl vb_X5_passes q1991 (hW.2.1.recv hKV rfl) rfl rfl (Nat.le_of_ble_eq_true rfl) dX5_passesPart_170 ⟨Nat.le_of_ble_eq_true rfl, Nat.le_of_ble_eq_true rfl⟩ (by omega) (by omega) hW (fun r H1 locs hL hp => ?_)
        obtain ⟨j_170, hj_170, hjn_170, rfl, hW, hO1⟩ := hp
        have hO := hO.trans hO1
        have hj_170 : j_170 = (pS (S.1 4) n j_109 98 98).2 := hj_170
        have hjn_170 : j_170 ≤ n := hjn_170
        have hW := MW.cast (S1 := uS S 14 (nI j_170)) hW ⟨rfl, rfl, rfl, rfl, rfl, rfl, rfl, rfl, rfl, rfl, rfl, rfl, rfl, rfl, rfl, rfl, rfl⟩
        refine W.stk (w := (bI ((pS (S.1 4) n j_109 98 98).1))) rfl ?_
        refine b_ifeq (tgt := 187) X dX5_passesPart_173 (by decide) (fun c_173 => ?_) (fun c_173 => ?_)
        ·
          refine lv_iconst (v := nI 0) hx hb dX5_passesPart_187 (by decide) ?_
          exact r_iret X hL rfl rfl dX5_passesPart_188 (by omega) (by omega) ⟨j_170, (by simp only [ptS, paS, pwS, thB, ifP, if_true, if_false, Bool.false_eq_true, c_8, c_94, c_112, c_173, ← hj_5, ← hj_91, ← hj_109, ← hj_170]), (by omega), (by rw [show (ptS (S.1 4) n i).1 = false from by simp only [ptS, paS, pwS, thB, ifP, if_true, if_false, Bool.false_eq_true, c_8, c_94, c_112, c_173, ← hj_5, ← hj_91, ← hj_109, ← hj_170]]; rfl), (MW.cast hW ⟨rfl, rfl, rfl, rfl, rfl, rfl, rfl, rfl, rfl, rfl, rfl, rfl, rfl, rfl, rfl, rfl, rfl⟩), hO⟩
        ·
          refine lv_aload_n hx hb dX5_passesPart_176 rfl (lv_at hl 0 rfl) ?_
          refine Ct.callV (ct_X5_passesBounds l g o n j_170 (uS S 14 (nI j_170)) hln rfl (by omega) (by omega)) X hL hl vb_X5_passesBounds q2003 (hW.2.1.recv hKV rfl) rfl rfl (Nat.le_of_ble_eq_true rfl) dX5_passesPart_177 ⟨Nat.le_of_ble_eq_true rfl, Nat.le_of_ble_eq_true rfl⟩ (by omega) (by omega) hW (fun r H1 locs hL hp => ?_)
          obtain ⟨j_177, hj_177, hjn_177, rfl, hW, hO1⟩ := hp
          have hO := hO.trans hO1
          have hj_177 : j_177 = (pbS (S.1 4) n j_170).2 := hj_177
          have hjn_177 : j_177 ≤ n := hjn_177
          have hW := MW.cast (S1 := uS S 14 (nI j_177)) hW ⟨rfl, rfl, rfl, rfl, rfl, rfl, rfl, rfl, rfl, rfl, rfl, rfl, rfl, rfl, rfl, rfl, rfl⟩
          refine W.stk (w := (bI ((pbS (S.1 4) n j_170).1))) rfl ?_
          refine b_ifeq (tgt := 187) X dX5_passesPart_180 (by decide) (fun c_180 => ?_) (fun c_180 => ?_)
          ·
            refine lv_iconst (v := nI 0) hx hb dX5_passesPart_187 (by decide) ?_
            exact r_iret X hL rfl rfl dX5_passesPart_188 (by omega) (by omega) ⟨j_177, (by simp only [ptS, paS, pwS, thB, ifP, if_true, if_false, Bool.false_eq_true, c_8, c_94, c_112, c_173, c_180, ← hj_5, ← hj_91, ← hj_109, ← hj_170, ← hj_177]), (by omega), (by rw [show (ptS (S.1 4) n i).1 = false from by simp only [ptS, paS, pwS, thB, ifP, if_true, if_false, Bool.false_eq_true, c_8, c_94, c_112, c_173, c_180, ← hj_5, ← hj_91, ← hj_109, ← hj_170, ← hj_177]]; rfl), (MW.cast hW ⟨rfl, rfl, rfl, rfl, rfl, rfl, rfl, rfl, rfl, rfl, rfl, rfl, rfl, rfl, rfl, rfl, rfl⟩), hO⟩
          ·
            refine lv_iconst (v := nI 1) hx hb dX5_passesPart_183 (by decide) ?_
            refine lv_goto (tgt := 188) hx hb dX5_passesPart_184 (by decide) ?_
            exact r_iret X hL rfl rfl dX5_passesPart_188 (by omega) (by omega) ⟨j_177, (by simp only [ptS, paS, pwS, thB, ifP, if_true, if_false, Bool.false_eq_true, c_8, c_94, c_112, c_173, c_180, ← hj_5, ← hj_91, ← hj_109, ← hj_170, ← hj_177]), (by omega), (by rw [show (ptS (S.1 4) n i).1 = true from by simp only [ptS, paS, pwS, thB, ifP, if_true, if_false, Bool.false_eq_true, c_8, c_94, c_112, c_173, c_180, ← hj_5, ← hj_91, ← hj_109, ← hj_170, ← hj_177]]; rfl), (MW.cast hW ⟨rfl, rfl, rfl, rfl, rfl, rfl, rfl, rfl, rfl, rfl, rfl, rfl, rfl, rfl, rfl, rfl, rfl⟩), hO⟩
      ·
        refine lv_aload_n hx hb dX5_passesPart_115 rfl (lv_at hl 0 rfl) ?_
        refine lv_bipush (v := nI 48) hx hb dX5_passesPart_116 (by decide) ?_
        refine lv_bipush (v := nI 51) hx hb dX5_passesPart_118 (by decide) ?_
        refine Ct.callV (ct_X5_passes l g o n j_109 48 51 (uS S 14 (nI j_109)) hln rfl (by omega) (by omega)) X hL hl vb_X5_passes q1991 (hW.2.1.recv hKV rfl) rfl rfl (Nat.le_of_ble_eq_true rfl) dX5_passesPart_120 ⟨Nat.le_of_ble_eq_true rfl, Nat.le_of_ble_eq_true rfl⟩ (by omega) (by omega) hW (fun r H1 locs hL hp => ?_)
        obtain ⟨j_120, hj_120, hjn_120, rfl, hW, hO1⟩ := hp
        have hO := hO.trans hO1
        have hj_120 : j_120 = (pS (S.1 4) n j_109 48 51).2 := hj_120
        have hjn_120 : j_120 ≤ n := hjn_120
        have hW := MW.cast (S1 := uS S 14 (nI j_120)) hW ⟨rfl, rfl, rfl, rfl, rfl, rfl, rfl, rfl, rfl, rfl, rfl, rfl, rfl, rfl, rfl, rfl, rfl⟩
        refine W.stk (w := (bI ((pS (S.1 4) n j_109 48 51).1))) rfl ?_
        refine b_ifeq (tgt := 163) X dX5_passesPart_123 (by decide) (fun c_123 => ?_) (fun c_123 => ?_)
        ·
          refine lv_iconst (v := nI 0) hx hb dX5_passesPart_163 (by decide) ?_
          exact r_iret X hL rfl rfl dX5_passesPart_164 (by omega) (by omega) ⟨j_120, (by simp only [ptS, paS, pwS, thB, ifP, if_true, if_false, Bool.false_eq_true, c_8, c_94, c_112, c_123, ← hj_5, ← hj_91, ← hj_109, ← hj_120]), (by omega), (by rw [show (ptS (S.1 4) n i).1 = false from by simp only [ptS, paS, pwS, thB, ifP, if_true, if_false, Bool.false_eq_true, c_8, c_94, c_112, c_123, ← hj_5, ← hj_91, ← hj_109, ← hj_120]]; rfl), (MW.cast hW ⟨rfl, rfl, rfl, rfl, rfl, rfl, rfl, rfl, rfl, rfl, rfl, rfl, rfl, rfl, rfl, rfl, rfl⟩), hO⟩
        ·
          refine lv_aload_n hx hb dX5_passesPart_126 rfl (lv_at hl 0 rfl) ?_
          refine lv_bipush (v := nI 45) hx hb dX5_passesPart_127 (by decide) ?_
          refine lv_bipush (v := nI 45) hx hb dX5_passesPart_129 (by decide) ?_
          refine Ct.callV (ct_X5_passes l g o n j_120 45 45 (uS S 14 (nI j_120)) hln rfl (by omega) (by omega)) X hL hl vb_X5_passes q1991 (hW.2.1.recv hKV rfl) rfl rfl (Nat.le_of_ble_eq_true rfl) dX5_passesPart_131 ⟨Nat.le_of_ble_eq_true rfl, Nat.le_of_ble_eq_true rfl⟩ (by omega) (by omega) hW (fun r H1 locs hL hp => ?_)
          obtain ⟨j_131, hj_131, hjn_131, rfl, hW, hO1⟩ := hp
          have hO := hO.trans hO1
          have hj_131 : j_131 = (pS (S.1 4) n j_120 45 45).2 := hj_131
          have hjn_131 : j_131 ≤ n := hjn_131
          have hW := MW.cast (S1 := uS S 14 (nI j_131)) hW ⟨rfl, rfl, rfl, rfl, rfl, rfl, rfl, rfl, rfl, rfl, rfl, rfl, rfl, rfl, rfl, rfl, rfl⟩
          refine W.stk (w := (bI ((pS (S.1 4) n j_120 45 45).1))) rfl ?_
          refine b_ifne (tgt := 159) X dX5_passesPart_134 (by decide) (fun c_134 => ?_) (fun c_134 => ?_)
          ·
            refine lv_iconst (v := nI 1) hx hb dX5_passesPart_159 (by decide) ?_
            refine lv_goto (tgt := 164) hx hb dX5_passesPart_160 (by decide) ?_
            exact r_iret X hL rfl rfl dX5_passesPart_164 (by omega) (by omega) ⟨j_131, (by simp only [ptS, paS, pwS, thB, ifP, if_true, if_false, Bool.false_eq_true, c_8, c_94, c_112, c_123, c_134, ← hj_5, ← hj_91, ← hj_109, ← hj_120, ← hj_131]), (by omega), (by rw [show (ptS (S.1 4) n i).1 = true from by simp only [ptS, paS, pwS, thB, ifP, if_true, if_false, Bool.false_eq_true, c_8, c_94, c_112, c_123, c_134, ← hj_5, ← hj_91, ← hj_109, ← hj_120, ← hj_131]]; rfl), (MW.cast hW ⟨rfl, rfl, rfl, rfl, rfl, rfl, rfl, rfl, rfl, rfl, rfl, rfl, rfl, rfl, rfl, rfl, rfl⟩), hO⟩
          ·
            refine lv_aload_n hx hb dX5_passesPart_137 rfl (lv_at hl 0 rfl) ?_
            refine lv_bipush (v := nI 43) hx hb dX5_passesPart_138 (by decide) ?_
            refine lv_bipush (v := nI 43) hx hb dX5_passesPart_140 (by decide) ?_
            refine Ct.callV (ct_X5_passes l g o n j_131 43 43 (uS S 14 (nI j_131)) hln rfl (by omega) (by omega)) X hL hl vb_X5_passes q1991 (hW.2.1.recv hKV rfl) rfl rfl (Nat.le_of_ble_eq_true rfl) dX5_passesPart_142 ⟨Nat.le_of_ble_eq_true rfl, Nat.le_of_ble_eq_true rfl⟩ (by omega) (by omega) hW (fun r H1 locs hL hp => ?_)
            obtain ⟨j_142, hj_142, hjn_142, rfl, hW, hO1⟩ := hp
            have hO := hO.trans hO1
            have hj_142 : j_142 = (pS (S.1 4) n j_131 43 43).2 := hj_142
            have hjn_142 : j_142 ≤ n := hjn_142
            have hW := MW.cast (S1 := uS S 14 (nI j_142)) hW ⟨rfl, rfl, rfl, rfl, rfl, rfl, rfl, rfl, rfl, rfl, rfl, rfl, rfl, rfl, rfl, rfl, rfl⟩
            refine W.stk (w := (bI ((pS (S.1 4) n j_131 43 43).1))) rfl ?_
            refine b_ifne (tgt := 159) X dX5_passesPart_145 (by decide) (fun c_145 => ?_) (fun c_145 => ?_)
            ·
              refine lv_iconst (v := nI 1) hx hb dX5_passesPart_159 (by decide) ?_
              refine lv_goto (tgt := 164) hx hb dX5_passesPart_160 (by decide) ?_
              exact r_iret X hL rfl rfl dX5_passesPart_164 (by omega) (by omega) ⟨j_142, (by simp only [ptS, paS, pwS, thB, ifP, if_true, if_false, Bool.false_eq_true, c_8, c_94, c_112, c_123, c_134, c_145, ← hj_5, ← hj_91, ← hj_109, ← hj_120, ← hj_131, ← hj_142]), (by omega), (by rw [show (ptS (S.1 4) n i).1 = true from by simp only [ptS, paS, pwS, thB, ifP, if_true, if_false, Bool.false_eq_true, c_8, c_94, c_112, c_123, c_134, c_145, ← hj_5, ← hj_91, ← hj_109, ← hj_120, ← hj_131, ← hj_142]]; rfl), (MW.cast hW ⟨rfl, rfl, rfl, rfl, rfl, rfl, rfl, rfl, rfl, rfl, rfl, rfl, rfl, rfl, rfl, rfl, rfl⟩), hO⟩
            ·
              refine lv_aload_n hx hb dX5_passesPart_148 rfl (lv_at hl 0 rfl) ?_
              refine lv_bipush (v := nI 48) hx hb dX5_passesPart_149 (by decide) ?_
              refine lv_bipush (v := nI 48) hx hb dX5_passesPart_151 (by decide) ?_
              refine Ct.callV (ct_X5_passes l g o n j_142 48 48 (uS S 14 (nI j_142)) hln rfl (by omega) (by omega)) X hL hl vb_X5_passes q1991 (hW.2.1.recv hKV rfl) rfl rfl (Nat.le_of_ble_eq_true rfl) dX5_passesPart_153 ⟨Nat.le_of_ble_eq_true rfl, Nat.le_of_ble_eq_true rfl⟩ (by omega) (by omega) hW (fun r H1 locs hL hp => ?_)
              obtain ⟨j_153, hj_153, hjn_153, rfl, hW, hO1⟩ := hp
              have hO := hO.trans hO1
              have hj_153 : j_153 = (pS (S.1 4) n j_142 48 48).2 := hj_153
              have hjn_153 : j_153 ≤ n := hjn_153
              have hW := MW.cast (S1 := uS S 14 (nI j_153)) hW ⟨rfl, rfl, rfl, rfl, rfl, rfl, rfl, rfl, rfl, rfl, rfl, rfl, rfl, rfl, rfl, rfl, rfl⟩
              refine W.stk (w := (bI ((pS (S.1 4) n j_142 48 48).1))) rfl ?_
              refine b_ifeq (tgt := 163) X dX5_passesPart_156 (by decide) (fun c_156 => ?_) (fun c_156 => ?_)
              ·
                refine lv_iconst (v := nI 0) hx hb dX5_passesPart_163 (by decide) ?_
                exact r_iret X hL rfl rfl dX5_passesPart_164 (by omega) (by omega) ⟨j_153, (by simp only [ptS, paS, pwS, thB, ifP, if_true, if_false, Bool.false_eq_true, c_8, c_94, c_112, c_123, c_134, c_145, c_156, ← hj_5, ← hj_91, ← hj_109, ← hj_120, ← hj_131, ← hj_142, ← hj_153]), (by omega), (by rw [show (ptS (S.1 4) n i).1 = false from by simp only [ptS, paS, pwS, thB, ifP, if_true, if_false, Bool.false_eq_true, c_8, c_94, c_112, c_123, c_134, c_145, c_156, ← hj_5, ← hj_91, ← hj_109, ← hj_120, ← hj_131, ← hj_142, ← hj_153]]; rfl), (MW.cast hW ⟨rfl, rfl, rfl, rfl, rfl, rfl, rfl, rfl, rfl, rfl, rfl, rfl, rfl, rfl, rfl, rfl, rfl⟩), hO⟩
              ·
                refine lv_iconst (v := nI 1) hx hb dX5_passesPart_159 (by decide) ?_
                refine lv_goto (tgt := 164) hx hb dX5_passesPart_160 (by decide) ?_
                exact r_iret X hL rfl rfl dX5_passesPart_164 (by omega) (by omega) ⟨j_153, (by simp only [ptS, paS, pwS, thB, ifP, if_true, if_false, Bool.false_eq_true, c_8, c_94, c_112, c_123, c_134, c_145, c_156, ← hj_5, ← hj_91, ← hj_109, ← hj_120, ← hj_131, ← hj_142, ← hj_153]), (by omega), (by rw [show (ptS (S.1 4) n i).1 = true from by simp only [ptS, paS, pwS, thB, ifP, if_true, if_false, Bool.false_eq_true, c_8, c_94, c_112, c_123, c_134, c_145, c_156, ← hj_5, ← hj_91, ← hj_109, ← hj_120, ← hj_131, ← hj_142, ← hj_153]]; rfl), (MW.cast hW ⟨rfl, rfl, rfl, rfl, rfl, rfl, rfl, rfl, rfl, rfl, rfl, rfl, rfl, rfl, rfl, rfl, rfl⟩), hO⟩
    ·
      refine lv_aload_n hx hb dX5_passesPart_97 rfl (lv_at hl 0 rfl) ?_
      refine lv_bipush (v := nI 39) hx hb dX5_passesPart_98 (by decide) ?_
      refine Ct.callV (ct_X5_passesNumber l g o n j_91 39 (uS S 14 (nI j_91)) hln rfl (by omega) (by omega)) X hL hl vb_X5_passesNumber q1999 (hW.2.1.recv hKV rfl) rfl rfl (Nat.le_of_ble_eq_true rfl) dX5_passesPart_100 ⟨Nat.le_of_ble_eq_true rfl, Nat.le_of_ble_eq_true rfl⟩ (by omega) (by omega) hW (fun r H1 locs hL hp => ?_)
      obtain ⟨j_100, hj_100, hjn_100, rfl, hW, hO1⟩ := hp
      have hO := hO.trans hO1
      have hj_100 : j_100 = (pnS (S.1 4) n j_91 39).2 := hj_100
      have hjn_100 : j_100 ≤ n := hjn_100
      have hW := MW.cast (S1 := uS S 14 (nI j_100)) hW ⟨rfl, rfl, rfl, rfl, rfl, rfl, rfl, rfl, rfl, rfl, rfl, rfl, rfl, rfl, rfl, rfl, rfl⟩
      refine W.stk (w := (bI ((pnS (S.1 4) n j_91 39).1))) rfl ?_
      exact r_iret X hL rfl (narrow_bI _) dX5_passesPart_103 (by omega) (by omega) ⟨j_100, (by simp only [ptS, paS, pwS, thB, ifP, if_true, if_false, Bool.false_eq_true, c_8, c_94, ← hj_5, ← hj_91, ← hj_100]), (by omega), (v_b (Eq.symm (show (ptS (S.1 4) n i).1 = ((pnS (S.1 4) n j_91 39).1) from by simp only [ptS, paS, pwS, thB, ifP, if_true, if_false, Bool.false_eq_true, c_8, c_94, ← hj_5, ← hj_91, ← hj_100]))), (MW.cast hW ⟨rfl, rfl, rfl, rfl, rfl, rfl, rfl, rfl, rfl, rfl, rfl, rfl, rfl, rfl, rfl, rfl, rfl⟩), hO⟩
  ·
    refine lv_aload_n hx hb dX5_passesPart_11 rfl (lv_at hl 0 rfl) ?_
    refine lv_bipush (v := nI 99) hx hb dX5_passesPart_12 (by decide) ?_
    refine Ct.callV (ct_X5_passesNumber l g o n j_5 99 (uS S 14 (nI j_5)) hln rfl (by omega) (by omega)) X hL hl vb_X5_passesNumber q1999 (hW.2.1.recv hKV rfl) rfl rfl (Nat.le_of_ble_eq_true rfl) dX5_passesPart_14 ⟨Nat.le_of_ble_eq_true rfl, Nat.le_of_ble_eq_true rfl⟩ (by omega) (by omega) hW (fun r H1 locs hL hp => ?_)
    obtain ⟨j_14, hj_14, hjn_14, rfl, hW, hO1⟩ := hp
    have hO := hO.trans hO1
    have hj_14 : j_14 = (pnS (S.1 4) n j_5 99).2 := hj_14
    have hjn_14 : j_14 ≤ n := hjn_14
    have hW := MW.cast (S1 := uS S 14 (nI j_14)) hW ⟨rfl, rfl, rfl, rfl, rfl, rfl, rfl, rfl, rfl, rfl, rfl, rfl, rfl, rfl, rfl, rfl, rfl⟩
    refine W.stk (w := (bI ((pnS (S.1 4) n j_5 99).1))) rfl ?_
    refine b_ifeq (tgt := 84) X dX5_passesPart_17 (by decide) (fun c_17 => ?_) (fun c_17 => ?_)
    ·
      refine lv_iconst (v := nI 0) hx hb dX5_passesPart_84 (by decide) ?_
      exact r_iret X hL rfl rfl dX5_passesPart_85 (by omega) (by omega) ⟨j_14, (by simp only [ptS, paS, pwS, thB, ifP, if_true, if_false, Bool.false_eq_true, c_8, c_17, ← hj_5, ← hj_14]), (by omega), (by rw [show (ptS (S.1 4) n i).1 = false from by simp only [ptS, paS, pwS, thB, ifP, if_true, if_false, Bool.false_eq_true, c_8, c_17, ← hj_5, ← hj_14]]; rfl), (MW.cast hW ⟨rfl, rfl, rfl, rfl, rfl, rfl, rfl, rfl, rfl, rfl, rfl, rfl, rfl, rfl, rfl, rfl, rfl⟩), hO⟩
    ·
      refine lv_aload_n hx hb dX5_passesPart_20 rfl (lv_at hl 0 rfl) ?_
      refine lv_bipush (v := nI 44) hx hb dX5_passesPart_21 (by decide) ?_
      refine lv_bipush (v := nI 44) hx hb dX5_passesPart_23 (by decide) ?_
      refine Ct.callV (ct_X5_passes l g o n j_14 44 44 (uS S 14 (nI j_14)) hln rfl (by omega) (by omega)) X hL hl vb_X5_passes q1991 (hW.2.1.recv hKV rfl) rfl rfl (Nat.le_of_ble_eq_true rfl) dX5_passesPart_25 ⟨Nat.le_of_ble_eq_true rfl, Nat.le_of_ble_eq_true rfl⟩ (by omega) (by omega) hW (fun r H1 locs hL hp => ?_)
      obtain ⟨j_25, hj_25, hjn_25, rfl, hW, hO1⟩ := hp
      have hO := hO.trans hO1
      have hj_25 : j_25 = (pS (S.1 4) n j_14 44 44).2 := hj_25
      have hjn_25 : j_25 ≤ n := hjn_25
      have hW := MW.cast (S1 := uS S 14 (nI j_25)) hW ⟨rfl, rfl, rfl, rfl, rfl, rfl, rfl, rfl, rfl, rfl, rfl, rfl, rfl, rfl, rfl, rfl, rfl⟩
      refine W.stk (w := (bI ((pS (S.1 4) n j_14 44 44).1))) rfl ?_
      refine b_ifeq (tgt := 84) X dX5_passesPart_28 (by decide) (fun c_28 => ?_) (fun c_28 => ?_)
      ·
        refine lv_iconst (v := nI 0) hx hb dX5_passesPart_84 (by decide) ?_
        exact r_iret X hL rfl rfl dX5_passesPart_85 (by omega) (by omega) ⟨j_25, (by simp only [ptS, paS, pwS, thB, ifP, if_true, if_false, Bool.false_eq_true, c_8, c_17, c_28, ← hj_5, ← hj_14, ← hj_25]), (by omega), (by rw [show (ptS (S.1 4) n i).1 = false from by simp only [ptS, paS, pwS, thB, ifP, if_true, if_false, Bool.false_eq_true, c_8, c_17, c_28, ← hj_5, ← hj_14, ← hj_25]]; rfl), (MW.cast hW ⟨rfl, rfl, rfl, rfl, rfl, rfl, rfl, rfl, rfl, rfl, rfl, rfl, rfl, rfl, rfl, rfl, rfl⟩), hO⟩
      ·
        refine lv_aload_n hx hb dX5_passesPart_31 rfl (lv_at hl 0 rfl) ?_
        refine lv_bipush (v := nI 99) hx hb dX5_passesPart_32 (by decide) ?_
        refine Ct.callV (ct_X5_passesNumber l g o n j_25 99 (uS S 14 (nI j_25)) hln rfl (by omega) (by omega)) X hL hl vb_X5_passesNumber q1999 (hW.2.1.recv hKV rfl) rfl rfl (Nat.le_of_ble_eq_true rfl) dX5_passesPart_34 ⟨Nat.le_of_ble_eq_true rfl, Nat.le_of_ble_eq_true rfl⟩ (by omega) (by omega) hW (fun r H1 locs hL hp => ?_)
        obtain ⟨j_34, hj_34, hjn_34, rfl, hW, hO1⟩ := hp
        have hO := hO.trans hO1
        have hj_34 : j_34 = (pnS (S.1 4) n j_25 99).2 := hj_34
        have hjn_34 : j_34 ≤ n := hjn_34
        have hW := MW.cast (S1 := uS S 14 (nI j_34)) hW ⟨rfl, rfl, rfl, rfl, rfl, rfl, rfl, rfl, rfl, rfl, rfl, rfl, rfl, rfl, rfl, rfl, rfl⟩
        refine W.stk (w := (bI ((pnS (S.1 4) n j_25 99).1))) rfl ?_
        refine b_ifeq (tgt := 84) X dX5_passesPart_37 (by decide) (fun c_37 => ?_) (fun c_37 => ?_)
        ·
          refine lv_iconst (v := nI 0) hx hb dX5_passesPart_84 (by decide) ?_
          exact r_iret X hL rfl rfl dX5_passesPart_85 (by omega) (by omega) ⟨j_34, (by simp only [ptS, paS, pwS, thB, ifP, if_true, if_false, Bool.false_eq_true, c_8, c_17, c_28, c_37, ← hj_5, ← hj_14, ← hj_25, ← hj_34]), (by omega), (by rw [show (ptS (S.1 4) n i).1 = false from by simp only [ptS, paS, pwS, thB, ifP, if_true, if_false, Bool.false_eq_true, c_8, c_17, c_28, c_37, ← hj_5, ← hj_14, ← hj_25, ← hj_34]]; rfl), (MW.cast hW ⟨rfl, rfl, rfl, rfl, rfl, rfl, rfl, rfl, rfl, rfl, rfl, rfl, rfl, rfl, rfl, rfl, rfl⟩), hO⟩
        ·
          refine lv_aload_n hx hb dX5_passesPart_40 rfl (lv_at hl 0 rfl) ?_
          refine lv_bipush (v := nI 44) hx hb dX5_passesPart_41 (by decide) ?_
          refine lv_bipush (v := nI 44) hx hb dX5_passesPart_43 (by decide) ?_
          refine Ct.callV (ct_X5_passes l g o n j_34 44 44 (uS S 14 (nI j_34)) hln rfl (by omega) (by omega)) X hL hl vb_X5_passes q1991 (hW.2.1.recv hKV rfl) rfl rfl (Nat.le_of_ble_eq_true rfl) dX5_passesPart_45 ⟨Nat.le_of_ble_eq_true rfl, Nat.le_of_ble_eq_true rfl⟩ (by omega) (by omega) hW (fun r H1 locs hL hp => ?_)
          obtain ⟨j_45, hj_45, hjn_45, rfl, hW, hO1⟩ := hp
          have hO := hO.trans hO1
          have hj_45 : j_45 = (pS (S.1 4) n j_34 44 44).2 := hj_45
          have hjn_45 : j_45 ≤ n := hjn_45
          have hW := MW.cast (S1 := uS S 14 (nI j_45)) hW ⟨rfl, rfl, rfl, rfl, rfl, rfl, rfl, rfl, rfl, rfl, rfl, rfl, rfl, rfl, rfl, rfl, rfl⟩
          refine W.stk (w := (bI ((pS (S.1 4) n j_34 44 44).1))) rfl ?_
          refine b_ifeq (tgt := 84) X dX5_passesPart_48 (by decide) (fun c_48 => ?_) (fun c_48 => ?_)
          ·
            refine lv_iconst (v := nI 0) hx hb dX5_passesPart_84 (by decide) ?_
            exact r_iret X hL rfl rfl dX5_passesPart_85 (by omega) (by omega) ⟨j_45, (by simp only [ptS, paS, pwS, thB, ifP, if_true, if_false, Bool.false_eq_true, c_8, c_17, c_28, c_37, c_48, ← hj_5, ← hj_14, ← hj_25, ← hj_34, ← hj_45]), (by omega), (by rw [show (ptS (S.1 4) n i).1 = false from by simp only [ptS, paS, pwS, thB, ifP, if_true, if_false, Bool.false_eq_true, c_8, c_17, c_28, c_37, c_48, ← hj_5, ← hj_14, ← hj_25, ← hj_34, ← hj_45]]; rfl), (MW.cast hW ⟨rfl, rfl, rfl, rfl, rfl, rfl, rfl, rfl, rfl, rfl, rfl, rfl, rfl, rfl, rfl, rfl, rfl⟩), hO⟩
          ·
            refine lv_aload_n hx hb dX5_passesPart_51 rfl (lv_at hl 0 rfl) ?_
            refine lv_bipush (v := nI 99) hx hb dX5_passesPart_52 (by decide) ?_
            refine Ct.callV (ct_X5_passesNumber l g o n j_45 99 (uS S 14 (nI j_45)) hln rfl (by omega) (by omega)) X hL hl vb_X5_passesNumber q1999 (hW.2.1.recv hKV rfl) rfl rfl (Nat.le_of_ble_eq_true rfl) dX5_passesPart_54 ⟨Nat.le_of_ble_eq_true rfl, Nat.le_of_ble_eq_true rfl⟩ (by omega) (by omega) hW (fun r H1 locs hL hp => ?_)
            obtain ⟨j_54, hj_54, hjn_54, rfl, hW, hO1⟩ := hp
            have hO := hO.trans hO1
            have hj_54 : j_54 = (pnS (S.1 4) n j_45 99).2 := hj_54
            have hjn_54 : j_54 ≤ n := hjn_54
            have hW := MW.cast (S1 := uS S 14 (nI j_54)) hW ⟨rfl, rfl, rfl, rfl, rfl, rfl, rfl, rfl, rfl, rfl, rfl, rfl, rfl, rfl, rfl, rfl, rfl⟩
            refine W.stk (w := (bI ((pnS (S.1 4) n j_45 99).1))) rfl ?_
            refine b_ifeq (tgt := 84) X dX5_passesPart_57 (by decide) (fun c_57 => ?_) (fun c_57 => ?_)
            ·
              refine lv_iconst (v := nI 0) hx hb dX5_passesPart_84 (by decide) ?_
              exact r_iret X hL rfl rfl dX5_passesPart_85 (by omega) (by omega) ⟨j_54, (by simp only [ptS, paS, pwS, thB, ifP, if_true, if_false, Bool.false_eq_true, c_8, c_17, c_28, c_37, c_48, c_57, ← hj_5, ← hj_14, ← hj_25, ← hj_34, ← hj_45, ← hj_54]), (by omega), (by rw [show (ptS (S.1 4) n i).1 = false from by simp only [ptS, paS, pwS, thB, ifP, if_true, if_false, Bool.false_eq_true, c_8, c_17, c_28, c_37, c_48, c_57, ← hj_5, ← hj_14, ← hj_25, ← hj_34, ← hj_45, ← hj_54]]; rfl), (MW.cast hW ⟨rfl, rfl, rfl, rfl, rfl, rfl, rfl, rfl, rfl, rfl, rfl, rfl, rfl, rfl, rfl, rfl, rfl⟩), hO⟩
            ·
              refine lv_aload_n hx hb dX5_passesPart_60 rfl (lv_at hl 0 rfl) ?_
              refine lv_bipush (v := nI 44) hx hb dX5_passesPart_61 (by decide) ?_
              refine lv_bipush (v := nI 44) hx hb dX5_passesPart_63 (by decide) ?_
              refine Ct.callV (ct_X5_passes l g o n j_54 44 44 (uS S 14 (nI j_54)) hln rfl (by omega) (by omega)) X hL hl vb_X5_passes q1991 (hW.2.1.recv hKV rfl) rfl rfl (Nat.le_of_ble_eq_true rfl) dX5_passesPart_65 ⟨Nat.le_of_ble_eq_true rfl, Nat.le_of_ble_eq_true rfl⟩ (by omega) (by omega) hW (fun r H1 locs hL hp => ?_)
              obtain ⟨j_65, hj_65, hjn_65, rfl, hW, hO1⟩ := hp
              have hO := hO.trans hO1
              have hj_65 : j_65 = (pS (S.1 4) n j_54 44 44).2 := hj_65
              have hjn_65 : j_65 ≤ n := hjn_65
              have hW := MW.cast (S1 := uS S 14 (nI j_65)) hW ⟨rfl, rfl, rfl, rfl, rfl, rfl, rfl, rfl, rfl, rfl, rfl, rfl, rfl, rfl, rfl, rfl, rfl⟩
              refine W.stk (w := (bI ((pS (S.1 4) n j_54 44 44).1))) rfl ?_
              refine b_ifeq (tgt := 84) X dX5_passesPart_68 (by decide) (fun c_68 => ?_) (fun c_68 => ?_)
              ·
                refine lv_iconst (v := nI 0) hx hb dX5_passesPart_84 (by decide) ?_
                exact r_iret X hL rfl rfl dX5_passesPart_85 (by omega) (by omega) ⟨j_65, (by simp only [ptS, paS, pwS, thB, ifP, if_true, if_false, Bool.false_eq_true, c_8, c_17, c_28, c_37, c_48, c_57, c_68, ← hj_5, ← hj_14, ← hj_25, ← hj_34, ← hj_45, ← hj_54, ← hj_65]), (by omega), (by rw [show (ptS (S.1 4) n i).1 = false from by simp only [ptS, paS, pwS, thB, ifP, if_true, if_false, Bool.false_eq_true, c_8, c_17, c_28, c_37, c_48, c_57, c_68, ← hj_5, ← hj_14, ← hj_25, ← hj_34, ← hj_45, ← hj_54, ← hj_65]]; rfl), (MW.cast hW ⟨rfl, rfl, rfl, rfl, rfl, rfl, rfl, rfl, rfl, rfl, rfl, rfl, rfl, rfl, rfl, rfl, rfl⟩), hO⟩
              ·
                refine lv_aload_n hx hb dX5_passesPart_71 rfl (lv_at hl 0 rfl) ?_
                refine lv_bipush (v := nI 99) hx hb dX5_passesPart_72 (by decide) ?_
                refine Ct.callV (ct_X5_passesNumber l g o n j_65 99 (uS S 14 (nI j_65)) hln rfl (by omega) (by omega)) X hL hl vb_X5_passesNumber q1999 (hW.2.1.recv hKV rfl) rfl rfl (Nat.le_of_ble_eq_true rfl) dX5_passesPart_74 ⟨Nat.le_of_ble_eq_true rfl, Nat.le_of_ble_eq_true rfl⟩ (by omega) (by omega) hW (fun r H1 locs hL hp => ?_)
                obtain ⟨j_74, hj_74, hjn_74, rfl, hW, hO1⟩ := hp
                have hO := hO.trans hO1
                have hj_74 : j_74 = (pnS (S.1 4) n j_65 99).2 := hj_74
                have hjn_74 : j_74 ≤ n := hjn_74
                have hW := MW.cast (S1 := uS S 14 (nI j_74)) hW ⟨rfl, rfl, rfl, rfl, rfl, rfl, rfl, rfl, rfl, rfl, rfl, rfl, rfl, rfl, rfl, rfl, rfl⟩
                refine W.stk (w := (bI ((pnS (S.1 4) n j_65 99).1))) rfl ?_
                refine b_ifeq (tgt := 84) X dX5_passesPart_77 (by decide) (fun c_77 => ?_) (fun c_77 => ?_)
                ·
                  refine lv_iconst (v := nI 0) hx hb dX5_passesPart_84 (by decide) ?_
                  exact r_iret X hL rfl rfl dX5_passesPart_85 (by omega) (by omega) ⟨j_74, (by simp only [ptS, paS, pwS, thB, ifP, if_true, if_false, Bool.false_eq_true, c_8, c_17, c_28, c_37, c_48, c_57, c_68, c_77, ← hj_5, ← hj_14, ← hj_25, ← hj_34, ← hj_45, ← hj_54, ← hj_65, ← hj_74]), (by omega), (by rw [show (ptS (S.1 4) n i).1 = false from by simp only [ptS, paS, pwS, thB, ifP, if_true, if_false, Bool.false_eq_true, c_8, c_17, c_28, c_37, c_48, c_57, c_68, c_77, ← hj_5, ← hj_14, ← hj_25, ← hj_34, ← hj_45, ← hj_54, ← hj_65, ← hj_74]]; rfl), (MW.cast hW ⟨rfl, rfl, rfl, rfl, rfl, rfl, rfl, rfl, rfl, rfl, rfl, rfl, rfl, rfl, rfl, rfl, rfl⟩), hO⟩
                ·
                  refine lv_iconst (v := nI 1) hx hb dX5_passesPart_80 (by decide) ?_
                  refine lv_goto (tgt := 85) hx hb dX5_passesPart_81 (by decide) ?_
                  exact r_iret X hL rfl rfl dX5_passesPart_85 (by omega) (by omega) ⟨j_74, (by simp only [ptS, paS, pwS, thB, ifP, if_true, if_false, Bool.false_eq_true, c_8, c_17, c_28, c_37, c_48, c_57, c_68, c_77, ← hj_5, ← hj_14, ← hj_25, ← hj_34, ← hj_45, ← hj_54, ← hj_65, ← hj_74]), (by omega), (by rw [show (ptS (S.1 4) n i).1 = true from by simp only [ptS, paS, pwS, thB, ifP, if_true, if_false, Bool.false_eq_true, c_8, c_17, c_28, c_37, c_48, c_57, c_68, c_77, ← hj_5, ← hj_14, ← hj_25, ← hj_34, ← hj_45, ← hj_54, ← hj_65, ← hj_74]]; rfl), (MW.cast hW ⟨rfl, rfl, rfl, rfl, rfl, rfl, rfl, rfl, rfl, rfl, rfl, rfl, rfl, rfl, rfl, rfl, rfl⟩), hO⟩
theorem vb_X5_passesPart : VB yX5_passesPart cX5_passesPart 1 (some .boolean) 0 := ⟨q1989, qs68, q111, q1990, ⟨by decide, by decide, by decide +kernel⟩⟩

set_option maxRecDepth 100000 in
set_option maxHeartbeats 4000000 in
theorem ct_X5_fault (l : Launch) (g : GT) (o n : Nat) (S : MS) (hln : S.2.1 13 = nI n) (hn6 : n ≤ 60) : Ct l g yX5_fault cX5_fault 2 (some .int) 7 0 0 [.ref o] (MW g o S) (fun r H H1 => ∃ (j : Nat), (j = (fauG (S.1 4) n (n + 1) 0).2) ∧ (j ≤ n) ∧ r = some (.int ((fauG (S.1 4) n (n + 1) 0).1)) ∧ MW g o (uS S 14 (nI j)) H1 ∧ Off o H H1) := by
  refine Ct.of (by decide) (Nat.le_of_ble_eq_true rfl) ?_
  intro p e s m args below meth c X hP ls hl
  have hx := X.1
  have hb := X.2.1
  have hKV := X.2.2.2.2.2.2.2.1.1
  have hL : ∀ q ∈ ([] : List Loc), gLo g ≤ q.base := fun _ h => by cases h
  have hl : lv_has ls 2 [(0, .ref o)] := hl
  have hW : MW g o S s.heap := hP
  have hO : Off o s.heap s.heap := Off.rfl'
  refine lv_aload_n hx hb dX5_fault_0 rfl (lv_at hl 0 rfl) ?_
  refine lv_iconst (v := nI 0) hx hb dX5_fault_1 (by decide) ?_
  refine mp_121 X rfl hL hW dX5_fault_2 (fun H locs hL hW hO1 => ?_)
  have hO := hO.trans hO1
  have hW := MW.cast (S1 := uS S 14 (nI 0)) hW ⟨rfl, rfl, rfl, rfl, rfl, rfl, rfl, rfl, rfl, rfl, rfl, rfl, rfl, rfl, rfl, rfl, rfl⟩
  refine lv_iconst (v := nI 1) hx hb dX5_fault_5 (by decide) ?_
  refine lv_istore_n (lv' := [(1, .int _), (0, .ref _)]) hx hb dX5_fault_6 rfl hl (by decide) rfl (fun ls hl => ?_)
  have L7 : ∀ (fuel : Nat) (b : Bool) (i q : Nat), q < fuel → (i ≤ n) → (fauG (S.1 4) n (n + 1) 0 = if b then fauG (S.1 4) n (q + 1) i else (nI i, i)) → (n ≤ i + q) → ∀ (H : Heap), MW g o (uS S 14 (nI i)) H → Off o s.heap H → ∀ (locs : List Loc), (∀ q ∈ locs, gLo g ≤ q.base) → ∀ (ls : Array Slot), lv_has ls 2 [(0, .ref o), (1, .int (bI b))] → W p l e (rmL 7 0 0) s m args below meth c H locs 0 0 (MQ below (Qcg (fun r H H1 => ∃ (j : Nat), (j = (fauG (S.1 4) n (n + 1) 0).2) ∧ (j ≤ n) ∧ r = some (.int ((fauG (S.1 4) n (n + 1) 0).1)) ∧ MW g o (uS S 14 (nI j)) H1 ∧ Off o H H1)) args s 0 0 (fre g)) (F0 m 7 ls []) := by
    intro fuel
    induction fuel with
    | zero => intro b i q hfu; exact absurd hfu (Nat.not_lt_zero _)
    | succ fuel ih7 =>
      intro b i q hfu hi hz hq H hW hO locs hL ls hl
      refine lv_iload_n hx hb dX5_fault_7 rfl (lv_at hl 1 rfl) ?_
      refine b_ifeq (tgt := 48) X dX5_fault_8 (by decide) (fun c_8 => ?_) (fun c_8 => ?_)
      ·
        refine lv_aload_n hx hb dX5_fault_48 rfl (lv_at hl 0 rfl) ?_
        refine mg_121 X rfl hW dX5_fault_49 (W.stk (w := (nI i)) rfl ?_)
        exact r_iret X hL rfl rfl dX5_fault_52 (by omega) (by omega) ⟨i, (by rw [hz, c_8, if_neg (by decide)]), hi, (by rw [hz, c_8, if_neg (by decide)]), (MW.cast hW ⟨rfl, rfl, rfl, rfl, rfl, rfl, rfl, rfl, rfl, rfl, rfl, rfl, rfl, rfl, rfl, rfl, rfl⟩), hO⟩
      ·
        refine lv_aload_n hx hb dX5_fault_11 rfl (lv_at hl 0 rfl) ?_
        refine Ct.callV (ct_X5_passesPart l g o n i (uS S 14 (nI i)) hln rfl (by omega) (by omega)) X hL hl vb_X5_passesPart q1987 (hW.2.1.recv hKV rfl) rfl rfl (Nat.le_of_ble_eq_true rfl) dX5_fault_12 ⟨Nat.le_of_ble_eq_true rfl, Nat.le_of_ble_eq_true rfl⟩ (by omega) (by omega) hW (fun r H1 locs hL hp => ?_)
        obtain ⟨j_12, hj_12, hjn_12, rfl, hW, hO1⟩ := hp
        have hO := hO.trans hO1
        have hj_12 : j_12 = (ptS (S.1 4) n i).2 := hj_12
        have hjn_12 : j_12 ≤ n := hjn_12
        have hW := MW.cast (S1 := uS S 14 (nI j_12)) hW ⟨rfl, rfl, rfl, rfl, rfl, rfl, rfl, rfl, rfl, rfl, rfl, rfl, rfl, rfl, rfl, rfl, rfl⟩
        refine W.stk (w := (bI ((ptS (S.1 4) n i).1))) rfl ?_
        refine b_ifne (tgt := 23) X dX5_fault_15 (by decide) (fun c_15 => ?_) (fun c_15 => ?_)
        ·
          have hlt := ptS_lt hi c_15
          rw [← hj_12] at hlt
          refine lv_aload_n hx hb dX5_fault_23 rfl (lv_at hl 0 rfl) ?_
          refine mg_121 X rfl hW dX5_fault_24 (W.stk (w := (nI j_12)) rfl ?_)
          refine lv_aload_n hx hb dX5_fault_27 rfl (lv_at hl 0 rfl) ?_
          refine mg_118 X rfl hW dX5_fault_28 (W.stk (w := (nI n)) hln ?_)
          refine n_icmp_ne (tgt := 36) X dX5_fault_31 (by decide) (by omega) (by omega) (fun c_31 => ?_) (fun c_31 => ?_)
          ·
            refine lv_aload_n hx hb dX5_fault_36 rfl (lv_at hl 0 rfl) ?_
            refine lv_bipush (v := nI 59) hx hb dX5_fault_37 (by decide) ?_
            refine lv_bipush (v := nI 59) hx hb dX5_fault_39 (by decide) ?_
            refine Ct.callV (ct_X5_passes l g o n j_12 59 59 (uS S 14 (nI j_12)) hln rfl (by omega) (by omega)) X hL hl vb_X5_passes q1991 (hW.2.1.recv hKV rfl) rfl rfl (Nat.le_of_ble_eq_true rfl) dX5_fault_41 ⟨Nat.le_of_ble_eq_true rfl, Nat.le_of_ble_eq_true rfl⟩ (by omega) (by omega) hW (fun r H1 locs hL hp => ?_)
            obtain ⟨j_41, hj_41, hjn_41, rfl, hW, hO1⟩ := hp
            have hO := hO.trans hO1
            have hj_41 : j_41 = (pS (S.1 4) n j_12 59 59).2 := hj_41
            have hjn_41 : j_41 ≤ n := hjn_41
            have hW := MW.cast (S1 := uS S 14 (nI j_41)) hW ⟨rfl, rfl, rfl, rfl, rfl, rfl, rfl, rfl, rfl, rfl, rfl, rfl, rfl, rfl, rfl, rfl, rfl⟩
            refine W.stk (w := (bI ((pS (S.1 4) n j_12 59 59).1))) rfl ?_
            have hpb := (pS_b (f := S.1 4) (a := 59) (b := 59) hjn_12).1
            rw [← hj_41] at hpb
            refine lv_istore_n (lv' := [(1, .int _), (0, .ref _)]) hx hb dX5_fault_44 rfl hl (by decide) rfl (fun ls hl => ?_)
            refine lv_goto (tgt := 7) hx hb dX5_fault_45 (by decide) ?_
            exact ih7 ((pS (S.1 4) n j_12 59 59).1) j_41 (q - 1) (by omega) (by omega) (by rw [if_pos c_8, fau_more c_15 (by rw [← hj_12]; exact c_31), ← hj_12, ← hj_41] at hz; rw [show q - 1 + 1 = q by omega]; exact hz) (by omega) _ hW hO _ hL ls (lv_sub hl [1, 0] rfl)
          ·
            refine lv_iconst (v := (-1)) hx hb dX5_fault_34 (by decide) ?_
            exact r_iret X hL rfl rfl dX5_fault_35 (by omega) (by omega) ⟨j_12, (by rw [hz, if_pos c_8, fauG, c_15, if_pos rfl, ← hj_12, if_pos c_31]), hjn_12, (by rw [hz, if_pos c_8, fauG, c_15, if_pos rfl, ← hj_12, if_pos c_31]), (MW.cast hW ⟨rfl, rfl, rfl, rfl, rfl, rfl, rfl, rfl, rfl, rfl, rfl, rfl, rfl, rfl, rfl, rfl, rfl⟩), hO⟩
        ·
          refine lv_aload_n hx hb dX5_fault_18 rfl (lv_at hl 0 rfl) ?_
          refine mg_121 X rfl hW dX5_fault_19 (W.stk (w := (nI j_12)) rfl ?_)
          exact r_iret X hL rfl rfl dX5_fault_22 (by omega) (by omega) ⟨j_12, (by rw [hz, if_pos c_8, fauG, c_15, if_neg (by decide), ← hj_12]), hjn_12, (by rw [hz, if_pos c_8, fauG, c_15, if_neg (by decide), ← hj_12]), (MW.cast hW ⟨rfl, rfl, rfl, rfl, rfl, rfl, rfl, rfl, rfl, rfl, rfl, rfl, rfl, rfl, rfl, rfl, rfl⟩), hO⟩
  exact L7 (n + 1) true 0 n (by omega) (by omega) (if_pos rfl).symm (by omega) _ hW hO _ hL ls (lv_sub hl [1, 0] rfl)
theorem vb_X5_fault : VB yX5_fault cX5_fault 2 (some .int) 0 := ⟨q1985, qs67, q111, q1986, ⟨by decide, by decide, by decide +kernel⟩⟩

set_option maxRecDepth 100000 in
set_option maxHeartbeats 4000000 in
theorem ct_X5_firstError (l : Launch) (g : GT) (o n : Nat) (S : MS) (hln : S.2.1 13 = nI n) (hn6 : n ≤ 60) : Ct l g yX5_firstError cX5_firstError 2 (some .int) 8 0 0 [.ref o] (MW g o S) (fun r H H1 => ∃ S1, AP S1 (s_fe S n) r ∧ MW g o S1 H1 ∧ Off o H H1) := by
  refine Ct.of (by decide) (Nat.le_of_ble_eq_true rfl) ?_
  intro p e s m args below meth c X hP ls hl
  have hx := X.1
  have hb := X.2.1
  have hKV := X.2.2.2.2.2.2.2.1.1
  have hL : ∀ q ∈ ([] : List Loc), gLo g ≤ q.base := fun _ h => by cases h
  have hl : lv_has ls 2 [(0, .ref o)] := hl
  have hW : MW g o S s.heap := hP
  have hO : Off o s.heap s.heap := Off.rfl'
  refine lv_aload_n hx hb dX5_firstError_0 rfl (lv_at hl 0 rfl) ?_
  refine lv_iconst (v := nI 0) hx hb dX5_firstError_1 (by decide) ?_
  refine mp_38 X rfl hL hW dX5_firstError_2 (fun H locs hL hW hO1 => ?_)
  have hO := hO.trans hO1
  have hW := MW.cast (S1 := uS S 15 (nI 0)) hW ⟨rfl, rfl, rfl, rfl, rfl, rfl, rfl, rfl, rfl, rfl, rfl, rfl, rfl, rfl, rfl, rfl, rfl⟩
  refine lv_aload_n hx hb dX5_firstError_5 rfl (lv_at hl 0 rfl) ?_
  refine Ct.callV (ct_X5_fault l g o n (uS S 15 (nI 0)) hln (by omega)) X hL hl vb_X5_fault q1983 (hW.2.1.recv hKV rfl) rfl rfl (Nat.le_of_ble_eq_true rfl) dX5_firstError_6 ⟨Nat.le_of_ble_eq_true rfl, Nat.le_of_ble_eq_true rfl⟩ (by omega) (by omega) hW (fun r H1 locs hL hp => ?_)
  obtain ⟨j_6, hj_6, hjn_6, rfl, hW, hO1⟩ := hp
  have hO := hO.trans hO1
  have hj_6 : j_6 = (fauG (S.1 4) n (n + 1) 0).2 := hj_6
  have hjn_6 : j_6 ≤ n := hjn_6
  have hW := MW.cast (S1 := uS (uS S 14 (nI j_6)) 15 (nI 0)) hW ⟨rfl, rfl, rfl, rfl, rfl, rfl, rfl, rfl, rfl, rfl, rfl, rfl, rfl, rfl, rfl, rfl, rfl⟩
  refine W.stk (w := ((fauG (S.1 4) n (n + 1) 0).1)) rfl ?_
  refine lv_istore_n (lv' := [(1, .int _), (0, .ref _)]) hx hb dX5_firstError_9 rfl hl (by decide) rfl (fun ls hl => ?_)
  refine lv_iload_n hx hb dX5_firstError_10 rfl (lv_at hl 0 rfl) ?_
  refine lv_iconst (v := (-1)) hx hb dX5_firstError_11 (by decide) ?_
  refine lv_icmp_ne (tgt := 22) hx hb dX5_firstError_12 (by decide) (fun c_12 => ?_) (fun c_12 => ?_)
  ·
    refine lv_iload_n hx hb dX5_firstError_22 rfl (lv_at hl 0 rfl) ?_
    exact r_iret X hL rfl rfl dX5_firstError_23 (by omega) (by omega) ⟨uS (uS S 14 (nI j_6)) 15 (nI 0), AP.mk (t := 0) (v := some (.int ((fauG (S.1 4) n (n + 1) 0).1))) (X := S) (by simp only [s_fe, q_, vI, c_12, if_true, if_false]) ⟨rfl, rfl, rfl, rfl, rfl, rfl, rfl, rfl⟩ rfl rfl, hW, hO⟩
  ·
    refine lv_aload_n hx hb dX5_firstError_15 rfl (lv_at hl 1 rfl) ?_
    refine mg_118 X rfl hW dX5_firstError_16 (W.stk (w := (nI n)) hln ?_)
    refine lv_goto (tgt := 23) hx hb dX5_firstError_19 (by decide) ?_
    exact r_iret X hL rfl rfl dX5_firstError_23 (by omega) (by omega) ⟨uS (uS S 14 (nI j_6)) 15 (nI 0), AP.mk (t := 0) (v := some (.int (nI n))) (X := S) (by simp only [s_fe, q_, vI, c_12, if_true, if_false]) ⟨rfl, rfl, rfl, rfl, rfl, rfl, rfl, rfl⟩ rfl rfl, hW, hO⟩
theorem vb_X5_firstError : VB yX5_firstError cX5_firstError 2 (some .int) 0 := ⟨q1980, q1981, q111, q1982, ⟨by decide, by decide, by decide +kernel⟩⟩
