/-! the OfferSky's queries -/

theorem not_t {b : Bool} (h : (!b) = false) : b = true := by cases b <;> first | rfl | exact absurd h (by decide)
theorem not_f {b : Bool} (h : (!b) = true) : b = false := by cases b <;> first | rfl | exact absurd h (by decide)
theorem raise_cast {r : Nat → Int32} {n i q : Nat} (hn : n ≤ 40) (hi : i < n) (hq : q < 4) : (if cB r i && matB (mw r) q then trG r n i q 100 0 else (-1)) = (if cB r i && matB (mw r) q then raI r n i q else (-1)) := by
  cases hc : cB r i
  · rw [Bool.false_and, if_neg (by decide), if_neg (by decide)]
  · rw [tried_eq hn hi hq hc]
theorem s_tak_t {S : MS} {n : Nat} {i : Int32} (h : inB i (nI 0) (nI (min (cnt (tellB (S.1 0) n (hasB (matI (mw (S.1 0))))) n) 40) - nI 1) = false) : (s_taken S n i).1 = 1 := by unfold s_taken; rw [h]; rfl
theorem s_tak_f {S : MS} {n : Nat} {i : Int32} {v : Nat} (h : noB (min (cnt (tellB (S.1 0) n (hasB (matI (mw (S.1 0))))) n) 40) i = false) (e : v = gBs (S.1 0) n (tellB (S.1 0) n (hasB (matI (mw (S.1 0))))) i.toNatClampNeg) : s_taken S n i = q_ S (nI v) := by
  subst e
  have h : (!inB i (nI 0) (nI (min (cnt (tellB (S.1 0) n (hasB (matI (mw (S.1 0))))) n) 40) - nI 1)) = false := h
  unfold s_taken
  rw [h, if_neg (by decide)]
theorem amI_is (a b q t : Int32) : ∀ j, j < 4 → upd (upd (upd (upd (fun _ => 0) 0 a) 1 b) 2 q) 3 t j = amI a b q t j := fun j hj => by
  have : j = 0 ∨ j = 1 ∨ j = 2 ∨ j = 3 := by omega
  rcases this with rfl | rfl | rfl | rfl <;> rfl
theorem fau_ei {f : Nat → Int32} {n : Nat} (hn : n ≤ 60) : ∀ k i, i ≤ n → n ≤ i + k → (fauG f n (k + 1) i).2 ≤ n ∧ (((fauG f n (k + 1) i).1 = (-1) ∧ (fauG f n (k + 1) i).2 = n) ∨ (fauG f n (k + 1) i).1 = nI (fauG f n (k + 1) i).2) := fun k => by
  induction k with
  | zero =>
    intro i hi hk
    have hb := (ptS_b (f := f) hi).2
    cases a : (ptS f n i).1
    · rw [fau_no a]; exact ⟨hb, Or.inr rfl⟩
    · have := (pt_inv a).1; omega
  | succ k ih =>
    intro i hi hk
    have hb := (ptS_b (f := f) hi).2
    cases a : (ptS f n i).1
    · rw [fau_no a]; exact ⟨hb, Or.inr rfl⟩
    · by_cases b : (ptS f n i).2 = n
      · rw [fau_end a b]; exact ⟨hb, Or.inl ⟨rfl, b⟩⟩
      · cases d : (pS f n (ptS f n i).2 59 59).1
        · rw [fau_bad a b d]; exact ⟨hb, Or.inr rfl⟩
        · rw [fau_next a d]
          have := (pS_t d).2
          have := ptS_lt hi a
          exact ih _ (by omega) (by omega)
theorem fau_at {f : Nat → Int32} {n : Nat} (hn : n ≤ 60) : nI (fauG f n (n + 1) 0).2 = (if (fauG f n (n + 1) 0).1 = (-1) then nI n else (fauG f n (n + 1) 0).1) := by
  obtain ⟨h1, h2⟩ := fau_ei (f := f) hn n 0 (Nat.zero_le _) (by omega)
  rcases h2 with ⟨h2, h3⟩ | h2
  · rw [if_pos h2, h3]
  · rw [h2, if_neg (nI_m1 (by omega))]

set_option maxRecDepth 100000 in
set_option maxHeartbeats 4000000 in
theorem ct_X1_at (l : Launch) (g : GT) (ro : Nat → Int32) (n : Nat) (x : Nat → Nat) (o sta dq sl bf : Nat) (hh : Int64) (i : Int32) (hl0 : l.stackTraces = false) (hn : n ≤ 40) : Ce l g yX1_at cX1_at 2 (some (.object "OfferSky$Offer")) 9 1 6 [.ref o, .int i] (fun H => SkV g ro n x o sta dq sl bf hh H) (fun r H H1 => noB n i = false ∧ r = some (.ref (x i.toNatClampNeg)) ∧ Ext H H1) (fun E H H1 => E = "java/lang/IndexOutOfBoundsException" ∧ noB n i = true ∧ Ext H H1) := by
  refine Ce.of (by decide) (Nat.le_of_ble_eq_true rfl) ?_
  intro p e s m args below meth c X ht hP ls hl
  have hx := X.1
  have hb := X.2.1
  have hKV := X.2.2.2.2.2.2.2.1.1
  have hL : ∀ q ∈ ([] : List Loc), gLo g ≤ q.base := fun _ h => by cases h
  obtain ⟨ob, hst⟩ := hP
  have hl : lv_has ls 2 [(0, .ref o), (1, .int i)] := hl
  refine lv_aload_n hx hb dX1_at_0 rfl (lv_at hl 0 rfl) ?_
  refine r_get (C := RX1) (T := TX1) (N := 5) (ci := 1) X in_X1 rfl 0 (Nat.le_of_ble_eq_true rfl) q280 (fun _ h => h) ob rfl dX1_at_1 ?_
  refine lv_iload_n hx hb dX1_at_4 rfl (lv_at hl 1 rfl) ?_
  refine Cp.callV (v := .int (bI (!noB n i))) (ct_X2_isOffer l g ro n x sta i hn) X hL hl vb_X2_isOffer q1375 (hst.recv hKV) rfl rfl (Nat.le_of_ble_eq_true rfl) dX1_at_5 ⟨Nat.le_of_ble_eq_true rfl, Nat.le_of_ble_eq_true rfl⟩ (by omega) (by omega) hst (fun locs hL => ?_)
  refine Ce.callS (ct_X1_requireIndex l g hl0 (!noB n i) ) X ht hL hl sb_X1_requireIndex q1380 rfl rfl (Nat.le_of_ble_eq_true rfl) dX1_at_8 ⟨Nat.le_of_ble_eq_true rfl, Nat.le_of_ble_eq_true rfl⟩ (by omega) (by omega) trivial (fun E1 H1 hx => ⟨hx.1, not_t hx.2.1, hx.2.2⟩) (fun r H locs hL hp => ?_)
  obtain ⟨rfl, hHH, hc⟩ := hp
  subst hHH
  have hnb : noB n i = false := not_f hc
  obtain ⟨hic, hil⟩ := noB_nat hn hnb
  refine lv_aload_n hx hb dX1_at_11 rfl (lv_at hl 0 rfl) ?_
  refine r_get (C := RX1) (T := TX1) (N := 5) (ci := 1) X in_X1 rfl 0 (Nat.le_of_ble_eq_true rfl) q280 (fun _ h => h) ob rfl dX1_at_12 ?_
  refine lv_iload_n hx hb dX1_at_15 rfl (lv_at hl 1 rfl) ?_
  refine W.stk (w := (nI i.toNatClampNeg)) hic ?_
  refine Cp.callV (v := .ref (x i.toNatClampNeg)) (ct_X2_get l g ro n x sta i.toNatClampNeg hn hil) X hL hl vb_X2_get q1176 (hst.recv hKV) rfl rfl (Nat.le_of_ble_eq_true rfl) dX1_at_16 ⟨Nat.le_of_ble_eq_true rfl, Nat.le_of_ble_eq_true rfl⟩ (by omega) (by omega) hst (fun locs hL => ?_)
  exact vx_ret (r_aret X hL rfl (Or.inl ⟨_, rfl⟩) (Or.inr ⟨_, rfl⟩) dX1_at_19 (by omega) (by omega) ⟨hnb, rfl, Ext.rfl'⟩)
theorem vb_X1_at : VB yX1_at cX1_at 2 (some (.object "OfferSky$Offer")) 1 := ⟨q1561, qs47, q99, q1562, ⟨by decide, by decide, by decide +kernel⟩⟩

set_option maxRecDepth 100000 in
set_option maxHeartbeats 4000000 in
theorem ct_X1_areBoth (l : Launch) (g : GT) (ro : Nat → Int32) (n : Nat) (x : Nat → Nat) (o sta dq sl bf : Nat) (hh : Int64) (i q : Int32) (hn : n ≤ 40) : Ct l g yX1_areBoth cX1_areBoth 3 (some .boolean) 5 0 0 [.ref o, .int i, .int q] (fun H => SkV g ro n x o sta dq sl bf hh H) (fun r H H1 => r = some (.int (bI (!(noB n i || noS q)))) ∧ H1 = H) := by
  refine Ct.of (by decide) (Nat.le_of_ble_eq_true rfl) ?_
  intro p e s m args below meth c X hP ls hl
  have hx := X.1
  have hb := X.2.1
  have hKV := X.2.2.2.2.2.2.2.1.1
  have hL : ∀ q ∈ ([] : List Loc), gLo g ≤ q.base := fun _ h => by cases h
  obtain ⟨ob, hst⟩ := hP
  have hl : lv_has ls 3 [(0, .ref o), (1, .int i), (2, .int q)] := hl
  refine lv_aload_n hx hb dX1_areBoth_0 rfl (lv_at hl 0 rfl) ?_
  refine r_get (C := RX1) (T := TX1) (N := 5) (ci := 1) X in_X1 rfl 0 (Nat.le_of_ble_eq_true rfl) q280 (fun _ h => h) ob rfl dX1_areBoth_1 ?_
  refine lv_iload_n hx hb dX1_areBoth_4 rfl (lv_at hl 1 rfl) ?_
  refine Cp.callV (v := .int (bI (!noB n i))) (ct_X2_isOffer l g ro n x sta i hn) X hL hl vb_X2_isOffer q1375 (hst.recv hKV) rfl rfl (Nat.le_of_ble_eq_true rfl) dX1_areBoth_5 ⟨Nat.le_of_ble_eq_true rfl, Nat.le_of_ble_eq_true rfl⟩ (by omega) (by omega) hst (fun locs hL => ?_)
  refine b_ifeq (tgt := 22) X dX1_areBoth_8 (by decide) (fun c_8 => ?_) (fun c_8 => ?_)
  ·
    refine lv_iconst (v := nI 0) hx hb dX1_areBoth_22 (by decide) ?_
    exact r_iret X hL rfl rfl dX1_areBoth_23 (by omega) (by omega) ⟨v_f (by rw [show noB n i = true by simpa using c_8]; rfl), rfl⟩
  ·
    refine lv_iload_n hx hb dX1_areBoth_11 rfl (lv_at hl 2 rfl) ?_
    refine Cp.callS (v := .int (bI (inB q (nI 0) (nI 3)))) (ct_X1_isSide l g q ) X hL hl sb_X1_isSide q1407 rfl rfl (Nat.le_of_ble_eq_true rfl) dX1_areBoth_12 ⟨Nat.le_of_ble_eq_true rfl, Nat.le_of_ble_eq_true rfl⟩ (by omega) (by omega) trivial (fun locs hL => ?_)
    refine b_ifeq (tgt := 22) X dX1_areBoth_15 (by decide) (fun c_15 => ?_) (fun c_15 => ?_)
    ·
      refine lv_iconst (v := nI 0) hx hb dX1_areBoth_22 (by decide) ?_
      exact r_iret X hL rfl rfl dX1_areBoth_23 (by omega) (by omega) ⟨v_f (by unfold noS; rw [c_15]; simp), rfl⟩
    ·
      refine lv_iconst (v := nI 1) hx hb dX1_areBoth_18 (by decide) ?_
      refine lv_goto (tgt := 23) hx hb dX1_areBoth_19 (by decide) ?_
      exact r_iret X hL rfl rfl dX1_areBoth_23 (by omega) (by omega) ⟨v_t (by unfold noS; rw [c_15, show noB n i = false by simpa using c_8]; rfl), rfl⟩
theorem vb_X1_areBoth : VB yX1_areBoth cX1_areBoth 3 (some .boolean) 2 := ⟨q1405, qs44, q99, q1406, ⟨by decide, by decide, by decide +kernel⟩⟩

set_option maxRecDepth 100000 in
set_option maxHeartbeats 4000000 in
theorem ct_X1_areSides (l : Launch) (g : GT) (a b : Int32)  : Ct l g yX1_areSides cX1_areSides 2 (some .boolean) 4 0 0 [.int a, .int b] (fun _ => True) (fun r H H1 => r = some (.int (bI (!(noS a || noS b)))) ∧ H1 = H) := by
  refine Ct.of (by decide) (Nat.le_of_ble_eq_true rfl) ?_
  intro p e s m args below meth c X hP ls hl
  have hx := X.1
  have hb := X.2.1
  have hKV := X.2.2.2.2.2.2.2.1.1
  have hL : ∀ q ∈ ([] : List Loc), gLo g ≤ q.base := fun _ h => by cases h
  have hl : lv_has ls 2 [(0, .int a), (1, .int b)] := hl
  refine lv_iload_n hx hb dX1_areSides_0 rfl (lv_at hl 0 rfl) ?_
  refine Cp.callS (v := .int (bI (inB a (nI 0) (nI 3)))) (ct_X1_isSide l g a ) X hL hl sb_X1_isSide q1407 rfl rfl (Nat.le_of_ble_eq_true rfl) dX1_areSides_1 ⟨Nat.le_of_ble_eq_true rfl, Nat.le_of_ble_eq_true rfl⟩ (by omega) (by omega) trivial (fun locs hL => ?_)
  refine b_ifeq (tgt := 18) X dX1_areSides_4 (by decide) (fun c_4 => ?_) (fun c_4 => ?_)
  ·
    refine lv_iconst (v := nI 0) hx hb dX1_areSides_18 (by decide) ?_
    exact r_iret X hL rfl rfl dX1_areSides_19 (by omega) (by omega) ⟨v_f (by unfold noS; rw [c_4]; rfl), rfl⟩
  ·
    refine lv_iload_n hx hb dX1_areSides_7 rfl (lv_at hl 1 rfl) ?_
    refine Cp.callS (v := .int (bI (inB b (nI 0) (nI 3)))) (ct_X1_isSide l g b ) X hL hl sb_X1_isSide q1407 rfl rfl (Nat.le_of_ble_eq_true rfl) dX1_areSides_8 ⟨Nat.le_of_ble_eq_true rfl, Nat.le_of_ble_eq_true rfl⟩ (by omega) (by omega) trivial (fun locs hL => ?_)
    refine b_ifeq (tgt := 18) X dX1_areSides_11 (by decide) (fun c_11 => ?_) (fun c_11 => ?_)
    ·
      refine lv_iconst (v := nI 0) hx hb dX1_areSides_18 (by decide) ?_
      exact r_iret X hL rfl rfl dX1_areSides_19 (by omega) (by omega) ⟨v_f (by unfold noS; rw [c_11]; simp), rfl⟩
    ·
      refine lv_iconst (v := nI 1) hx hb dX1_areSides_14 (by decide) ?_
      refine lv_goto (tgt := 19) hx hb dX1_areSides_15 (by decide) ?_
      exact r_iret X hL rfl rfl dX1_areSides_19 (by omega) (by omega) ⟨v_t (by unfold noS; rw [c_4, c_11]; rfl), rfl⟩
theorem sb_X1_areSides : SB yX1_areSides cX1_areSides 2 (some .boolean) 2 := ⟨q1804, q99, q1805, ⟨by decide, by decide, by decide +kernel⟩⟩

set_option maxRecDepth 100000 in
set_option maxHeartbeats 4000000 in
theorem ct_X1_told (l : Launch) (g : GT) (v : Int32) (hl0 : l.stackTraces = false) : Ce l g yX1_told cX1_told 1 (some .int) 8 1 6 [.int v] (fun _ => True) (fun r H H1 => ¬ v = (-1) ∧ r = some (.int v) ∧ Ext H H1) (fun E H H1 => E = "java/lang/IllegalStateException" ∧ v = (-1) ∧ Ext H H1) := by
  refine Ce.of (by decide) (Nat.le_of_ble_eq_true rfl) ?_
  intro p e s m args below meth c X ht hP ls hl
  have hx := X.1
  have hb := X.2.1
  have hKV := X.2.2.2.2.2.2.2.1.1
  have hL : ∀ q ∈ ([] : List Loc), gLo g ≤ q.base := fun _ h => by cases h
  have hl : lv_has ls 1 [(0, .int v)] := hl
  refine lv_iload_n hx hb dX1_told_0 rfl (lv_at hl 0 rfl) ?_
  refine lv_iconst (v := (-1)) hx hb dX1_told_1 (by decide) ?_
  refine lv_icmp_eq (tgt := 9) hx hb dX1_told_2 (by decide) (fun c_2 => ?_) (fun c_2 => ?_)
  ·
    refine lv_iconst (v := nI 0) hx hb dX1_told_9 (by decide) ?_
    refine Ce.callS (ct_X1_requireState l g hl0 false ) X ht hL hl sb_X1_requireState q1341 rfl rfl (Nat.le_of_ble_eq_true rfl) dX1_told_10 ⟨Nat.le_of_ble_eq_true rfl, Nat.le_of_ble_eq_true rfl⟩ (by omega) (by omega) trivial (fun E1 H1 hx => ⟨hx.1, c_2, hx.2.2⟩) (fun r H locs hL hp => ?_)
    obtain ⟨rfl, hHH, hc⟩ := hp
    subst hHH
    refine lv_iload_n hx hb dX1_told_13 rfl (lv_at hl 0 rfl) ?_
    exact vx_ret (r_iret X hL rfl rfl dX1_told_14 (by omega) (by omega) (absurd hc (by decide)))
  ·
    refine lv_iconst (v := nI 1) hx hb dX1_told_5 (by decide) ?_
    refine lv_goto (tgt := 10) hx hb dX1_told_6 (by decide) ?_
    refine Ce.callS (ct_X1_requireState l g hl0 true ) X ht hL hl sb_X1_requireState q1341 rfl rfl (Nat.le_of_ble_eq_true rfl) dX1_told_10 ⟨Nat.le_of_ble_eq_true rfl, Nat.le_of_ble_eq_true rfl⟩ (by omega) (by omega) trivial (fun E1 H1 hx => absurd hx.2.1 (by decide)) (fun r H locs hL hp => ?_)
    obtain ⟨rfl, hHH, hc⟩ := hp
    subst hHH
    refine lv_iload_n hx hb dX1_told_13 rfl (lv_at hl 0 rfl) ?_
    exact vx_ret (r_iret X hL rfl rfl dX1_told_14 (by omega) (by omega) ⟨c_2, rfl, Ext.rfl'⟩)
theorem sb_X1_told : SB yX1_told cX1_told 1 (some .int) 1 := ⟨q1750, q99, q1751, ⟨by decide, by decide, by decide +kernel⟩⟩

set_option maxRecDepth 100000 in
set_option maxHeartbeats 4000000 in
theorem ct_X1_isInWindow (l : Launch) (g : GT) (ro : Nat → Int32) (x : Nat → Nat) (L : List Nat) (o b : Nat) (f : Nat → Int32) (q : Nat) (hLn : L.length ≤ 40) : Ct l g yX1_isInWindow cX1_isInWindow 3 (some .boolean) 13 1 1 [.ref o, .ref b, .ref q] (fun H => BgQ g x L b H ∧ OfL g ro x L H ∧ OfQ g f q H) (fun r H H1 => r = some (.int (bI (L.any (fun j => decide (x j = q))))) ∧ Ext H H1) := by
  refine Ct.ofN (by decide) (Nat.le_of_ble_eq_true rfl) ?_
  intro p e s m args below meth c X hnm hP ls hl
  have hx := X.1
  have hb := X.2.1
  have hKV := X.2.2.2.2.2.2.2.1.1
  have hL : ∀ q ∈ ([] : List Loc), gLo g ≤ q.base := fun _ h => by cases h
  obtain ⟨⟨PG, hbg⟩, hof, hq⟩ := hP
  have hl : lv_has ls 3 [(0, .ref o), (1, .ref b), (2, .ref q)] := hl
  refine lv_aload_n hx hb dX1_isInWindow_0 rfl (lv_at hl 1 rfl) ?_
  refine lv_aload_n hx hb dX1_isInWindow_1 rfl (lv_at hl 2 rfl) ?_
  obtain ⟨b1, hb1⟩ : ∃ b, s.heap.size = b := ⟨_, rfl⟩
  have sz_b1 : s.heap.size ≤ b1 := by rw [← hb1]; exact Nat.le_refl _
  have lo_b1 : gLo g ≤ b1 := Nat.le_trans X.2.2.2.2.2.2.2.1.2.1 sz_b1
  refine r_indy (k := 10) (σ := lm10s) X hnm hl lm10q [.ref q] [.object "OfferSky$Offer"] (lm10 hKV X.2.2.2.2.1).1.2 rfl rfl rfl (by intro i t v h1 h2; rcases i with _ | _ | _ | i <;> simp at h1 h2 <;> (try (subst h1; subst h2; rfl))) rfl (Nat.le_of_ble_eq_true rfl) (by show _ + 1 ≤ 1; omega) (by show _ + 1 ≤ 1; omega) dX1_isInWindow_2 (fun H ha_b1 hE_b1 hz_b1 => ?_)
  rw [hb1] at ha_b1 hz_b1 ⊢
  have hbg := hbg.ext hE_b1
  have hof := hof.ext hE_b1
  have hq := hq.ext hE_b1
  rw [show ([.ref q] : List Value).length = 1 from rfl]
  refine Ct.callV (ct_X3_hasOne l g PG x L b b1 (fun j => decide (x j = q)) hLn) X hL hl vb_X3_hasOne q1198 (hbg.recv hKV) rfl rfl (Nat.le_of_ble_eq_true rfl) dX1_isInWindow_7 ⟨Nat.le_of_ble_eq_true rfl, Nat.le_of_ble_eq_true rfl⟩ (by omega) (by omega) ⟨hbg, hof.el, fun i hi H1 hE1 => ru_10 (ha_b1.ext hE1) ((hof i hi).ext hE1)⟩ (fun r H locs hL hp => ?_)
  obtain ⟨rfl, hE2⟩ := hp
  exact r_iret X hL rfl (narrow_bI _) dX1_isInWindow_10 (by omega) (by omega) ⟨rfl, hE_b1.trans hE2⟩
theorem vb_X1_isInWindow : VB yX1_isInWindow cX1_isInWindow 3 (some .boolean) 2 := ⟨q1194, qs32, q99, q1195, ⟨by decide, by decide, by decide +kernel⟩⟩

set_option maxRecDepth 100000 in
set_option maxHeartbeats 4000000 in
theorem ct_X1_manyIn (l : Launch) (g : GT) (ra n : Nat) (f : Nat → Int32) (v : Nat → Nat) (t : Int32) (hn : n ≤ 40) (hfv : ∀ j, j < n → f j = nI (v j)) : Ct l g yX1_manyIn cX1_manyIn 7 (some .int) 2 0 0 [.ref ra, .int t] (Ar g ra 0 n f) (fun r H H1 => r = some (.int (nI (cnt (fun k => decide (nI (v k) = t)) n))) ∧ H1 = H) := by
  refine Ct.of (by decide) (Nat.le_of_ble_eq_true rfl) ?_
  intro p e s m args below meth c X hP ls hl
  have hx := X.1
  have hb := X.2.1
  have hKV := X.2.2.2.2.2.2.2.1.1
  have hL : ∀ q ∈ ([] : List Loc), gLo g ≤ q.base := fun _ h => by cases h
  have ar := hP
  have hl : lv_has ls 7 [(0, .ref ra), (1, .int t)] := hl
  refine lv_iconst (v := nI 0) hx hb dX1_manyIn_0 (by decide) ?_
  refine lv_istore_n (lv' := [(2, .int _), (0, .ref _), (1, .int _)]) hx hb dX1_manyIn_1 rfl hl (by decide) rfl (fun ls hl => ?_)
  refine lv_aload_n hx hb dX1_manyIn_2 rfl (lv_at hl 1 rfl) ?_
  refine lv_astore_n (lv' := [(3, .ref _), (2, .int _), (0, .ref _), (1, .int _)]) hx hb dX1_manyIn_3 rfl hl (by decide) rfl (fun ls hl => ?_)
  refine lv_aload_n hx hb dX1_manyIn_4 rfl (lv_at hl 0 rfl) ?_
  refine r_len (k := 0) (v := nI n) X ar rfl rfl dX1_manyIn_5 ?_
  refine lv_istore (lv' := [(4, .int _), (3, .ref _), (2, .int _), (0, .ref _), (1, .int _)]) hx hb dX1_manyIn_6 hl (by decide) rfl (fun ls hl => ?_)
  refine lv_iconst (v := nI 0) hx hb dX1_manyIn_8 (by decide) ?_
  refine lv_istore (lv' := [(5, .int _), (4, .int _), (3, .ref _), (2, .int _), (0, .ref _), (1, .int _)]) hx hb dX1_manyIn_9 hl (by decide) rfl (fun ls hl => ?_)
  have L11 : ∀ (fuel : Nat) (w k : Nat), n - k < fuel → (w = cnt (fun k => decide (nI (v k) = t)) k) → (k ≤ n) → ∀ (locs : List Loc), (∀ q ∈ locs, gLo g ≤ q.base) → ∀ (ls : Array Slot), lv_has ls 7 [(0, .ref ra), (1, .int t), (2, .int (nI w)), (3, .ref ra), (4, .int (nI n)), (5, .int (nI k))] → W p l e (rmL 2 0 0) s m args below meth c s.heap locs 0 0 (MQ below (Qcg (fun r H H1 => r = some (.int (nI (cnt (fun k => decide (nI (v k) = t)) n))) ∧ H1 = H)) args s 0 0 (fre g)) (F0 m 11 ls []) := by
    intro fuel
    induction fuel with
    | zero => intro w k hfu; exact absurd hfu (Nat.not_lt_zero _)
    | succ fuel ih11 =>
      intro w k hfu hv hk  locs hL ls hl
      refine lv_iload hx hb dX1_manyIn_11 (lv_at hl 5 rfl) ?_
      refine lv_iload hx hb dX1_manyIn_13 (lv_at hl 4 rfl) ?_
      refine n_icmp_ge (tgt := 47) X dX1_manyIn_15 (by decide) (by omega) (by omega) (fun c_15 => ?_) (fun c_15 => ?_)
      ·
        refine lv_iload_n hx hb dX1_manyIn_47 rfl (lv_at hl 2 rfl) ?_
        exact r_iret X hL rfl rfl dX1_manyIn_48 (by omega) (by omega) ⟨v_n (by rw [hv, show k = n by omega]), rfl⟩
      ·
        refine lv_aload_n hx hb dX1_manyIn_18 rfl (lv_at hl 3 rfl) ?_
        refine lv_iload hx hb dX1_manyIn_19 (lv_at hl 5 rfl) ?_
        refine r_ild X ar k (nI_cl (by omega) rfl) (nI_nn (by omega) rfl) (by omega) dX1_manyIn_21 ?_
        refine lv_istore (lv' := [(6, .int _), (0, .ref _), (1, .int _), (2, .int _), (3, .ref _), (4, .int _), (5, .int _)]) hx hb dX1_manyIn_22 hl (by decide) rfl (fun ls hl => ?_)
        refine lv_iload_n hx hb dX1_manyIn_24 rfl (lv_at hl 3 rfl) ?_
        refine lv_iload hx hb dX1_manyIn_25 (lv_at hl 0 rfl) ?_
        refine lv_iload_n hx hb dX1_manyIn_27 rfl (lv_at hl 2 rfl) ?_
        refine lv_icmp_ne (tgt := 35) hx hb dX1_manyIn_28 (by decide) (fun c_28 => ?_) (fun c_28 => ?_)
        ·
          refine lv_iconst (v := nI 0) hx hb dX1_manyIn_35 (by decide) ?_
          refine Cp.callS (v := .int (nI 0)) (ct_X1_flag l g false ) X hL hl sb_X1_flag q1178 rfl rfl (Nat.le_of_ble_eq_true rfl) dX1_manyIn_36 ⟨Nat.le_of_ble_eq_true rfl, Nat.le_of_ble_eq_true rfl⟩ (by omega) (by omega) trivial (fun locs hL => ?_)
          refine n_iadd X dX1_manyIn_39 ?_
          refine lv_istore_n (lv' := [(2, .int _), (6, .int _), (0, .ref _), (1, .int _), (3, .ref _), (4, .int _), (5, .int _)]) hx hb dX1_manyIn_40 rfl hl (by decide) rfl (fun ls hl => ?_)
          refine lv_iinc (v := nI (k + 1)) (lv' := [(5, .int _), (2, .int _), (6, .int _), (0, .ref _), (1, .int _), (3, .ref _), (4, .int _)]) hx hb dX1_manyIn_41 hl (k := 6) rfl (nI_iinc _ 1 rfl) (by decide) rfl (fun ls hl => ?_)
          refine lv_goto (tgt := 11) hx hb dX1_manyIn_44 (by decide) ?_
          exact ih11 _ _ (by omega) (cnt_f hv (decide_eq_false (fun e => c_28 ((hfv k (by omega)).trans e)))) (by omega) _ hL ls (lv_sub hl [3, 4, 1, 5, 6, 0] rfl)
        ·
          refine lv_iconst (v := nI 1) hx hb dX1_manyIn_31 (by decide) ?_
          refine lv_goto (tgt := 36) hx hb dX1_manyIn_32 (by decide) ?_
          refine Cp.callS (v := .int (nI 1)) (ct_X1_flag l g true ) X hL hl sb_X1_flag q1178 rfl rfl (Nat.le_of_ble_eq_true rfl) dX1_manyIn_36 ⟨Nat.le_of_ble_eq_true rfl, Nat.le_of_ble_eq_true rfl⟩ (by omega) (by omega) trivial (fun locs hL => ?_)
          refine n_iadd X dX1_manyIn_39 ?_
          refine lv_istore_n (lv' := [(2, .int _), (6, .int _), (0, .ref _), (1, .int _), (3, .ref _), (4, .int _), (5, .int _)]) hx hb dX1_manyIn_40 rfl hl (by decide) rfl (fun ls hl => ?_)
          refine lv_iinc (v := nI (k + 1)) (lv' := [(5, .int _), (2, .int _), (6, .int _), (0, .ref _), (1, .int _), (3, .ref _), (4, .int _)]) hx hb dX1_manyIn_41 hl (k := 6) rfl (nI_iinc _ 1 rfl) (by decide) rfl (fun ls hl => ?_)
          refine lv_goto (tgt := 11) hx hb dX1_manyIn_44 (by decide) ?_
          exact ih11 _ _ (by omega) (cnt_t hv (decide_eq_true ((hfv k (by omega)).symm.trans c_28))) (by omega) _ hL ls (lv_sub hl [3, 4, 1, 5, 6, 0] rfl)
  exact L11 (n + 1) 0 0 (by omega) rfl (by omega) _ hL ls (lv_sub hl [4, 5, 3, 2, 1, 0] rfl)
theorem sb_X1_manyIn : SB yX1_manyIn cX1_manyIn 7 (some .int) 2 := ⟨q1671, q99, q1672, ⟨by decide, by decide, by decide +kernel⟩⟩

set_option maxRecDepth 100000 in
set_option maxHeartbeats 4000000 in
theorem ct_X1_offers (l : Launch) (g : GT) (F : Nat → Prop) (S : MS) (n st ln : Nat) (hf hs : Bool) (o : Nat)  : Ct l g yX1_offers cX1_offers 1 (some .int) 7 0 0 [.ref o] (SkR g F S n st ln hf hs o) (OQ (q_ S (nI n))) := by
  refine Ct.of (by decide) (Nat.le_of_ble_eq_true rfl) ?_
  intro p e s m args below meth c X hP ls hl
  have hx := X.1
  have hb := X.2.1
  have hKV := X.2.2.2.2.2.2.2.1.1
  have hL : ∀ q ∈ ([] : List Loc), gLo g ≤ q.base := fun _ h => by cases h
  obtain ⟨sta, dq, sl, bf, x, hh, PB, PD, xs, fs, ob, hst, hR, hn, hbf, hPB, hdq, hsl, hf0, hf1, loo⟩ := hP.v
  have hw := hR.w
  obtain ⟨sb, sd, PG, PS, obs, hbg, hsd, hof, hinj⟩ := id hst
  have hl : lv_has ls 1 [(0, .ref o)] := hl
  have hE : Ext s.heap s.heap := Ext.rfl'
  refine lv_aload_n hx hb dX1_offers_0 rfl (lv_at hl 0 rfl) ?_
  refine r_get (C := RX1) (T := TX1) (N := 5) (ci := 1) X in_X1 rfl 0 (Nat.le_of_ble_eq_true rfl) q280 (fun _ h => h) ob rfl dX1_offers_1 ?_
  refine r_getN (C := RX2) (T := TX2) (N := 4) (ci := 2) X in_X2 rfl 0 (Nat.le_of_ble_eq_true rfl) q211 (fun _ h => h) obs rfl dX1_offers_4 ?_
  refine Cp.callV (v := .int (nI _)) (ct_X3_size l g PG _ _ sb ) X hL hl vb_X3_size q993 (hbg.recv hKV) rfl rfl (Nat.le_of_ble_eq_true rfl) dX1_offers_7 ⟨Nat.le_of_ble_eq_true rfl, Nat.le_of_ble_eq_true rfl⟩ (by omega) (by omega) hbg (fun locs hL => ?_)
  rw [rng_len]
  exact r_iret X hL rfl rfl dX1_offers_10 (by omega) (by omega) (OQ.q rfl rfl hE)
theorem vb_X1_offers : VB yX1_offers cX1_offers 1 (some .int) 0 := ⟨q990, q991, q99, q992, ⟨by decide, by decide, by decide +kernel⟩⟩

set_option maxRecDepth 100000 in
set_option maxHeartbeats 4000000 in
theorem ct_X1_savedStates (l : Launch) (g : GT) (F : Nat → Prop) (S : MS) (n st ln : Nat) (hf hs : Bool) (o : Nat)  : Ct l g yX1_savedStates cX1_savedStates 1 (some .int) 4 0 0 [.ref o] (SkR g F S n st ln hf hs o) (OQ (q_ S (nI st))) := by
  refine Ct.of (by decide) (Nat.le_of_ble_eq_true rfl) ?_
  intro p e s m args below meth c X hP ls hl
  have hx := X.1
  have hb := X.2.1
  have hKV := X.2.2.2.2.2.2.2.1.1
  have hL : ∀ q ∈ ([] : List Loc), gLo g ≤ q.base := fun _ h => by cases h
  obtain ⟨sta, dq, sl, bf, x, hh, PB, PD, xs, fs, ob, hst, hR, hn, hbf, hPB, hdq, hsl, hf0, hf1, loo⟩ := hP.v
  have hw := hR.w
  obtain ⟨sb, sd, PG, PS, obs, hbg, hsd, hof, hinj⟩ := id hst
  have hl : lv_has ls 1 [(0, .ref o)] := hl
  have hE : Ext s.heap s.heap := Ext.rfl'
  refine lv_aload_n hx hb dX1_savedStates_0 rfl (lv_at hl 0 rfl) ?_
  refine r_get (C := RX1) (T := TX1) (N := 5) (ci := 1) X in_X1 rfl 1 (Nat.le_of_ble_eq_true rfl) q281 (fun _ h => h) ob rfl dX1_savedStates_1 ?_
  refine Cp.callV (v := .int (nI st)) (ct_J3_size l g PD xs st dq ) X hL hl vb_J3_size q305 (hdq.recv hKV) rfl rfl (Nat.le_of_ble_eq_true rfl) dX1_savedStates_4 ⟨Nat.le_of_ble_eq_true rfl, Nat.le_of_ble_eq_true rfl⟩ (by omega) (by omega) hdq (fun locs hL => ?_)
  exact r_iret X hL rfl rfl dX1_savedStates_7 (by omega) (by omega) (OQ.q rfl rfl hE)
theorem vb_X1_savedStates : VB yX1_savedStates cX1_savedStates 1 (some .int) 0 := ⟨q986, q987, q99, q988, ⟨by decide, by decide, by decide +kernel⟩⟩

set_option maxRecDepth 100000 in
set_option maxHeartbeats 4000000 in
theorem ct_X1_added (l : Launch) (g : GT) (F : Nat → Prop) (S : MS) (n st ln : Nat) (hf hs : Bool) (o : Nat)  : Ct l g yX1_added cX1_added 1 (some .int) 2 0 0 [.ref o] (SkR g F S n st ln hf hs o) (OQ (q_ S (S.1 0 177))) := by
  refine Ct.of (by decide) (Nat.le_of_ble_eq_true rfl) ?_
  intro p e s m args below meth c X hP ls hl
  have hx := X.1
  have hb := X.2.1
  have hKV := X.2.2.2.2.2.2.2.1.1
  have hL : ∀ q ∈ ([] : List Loc), gLo g ≤ q.base := fun _ h => by cases h
  obtain ⟨sta, dq, sl, bf, x, hh, PB, PD, xs, fs, ob, hst, hR, hn, hbf, hPB, hdq, hsl, hf0, hf1, loo⟩ := hP.v
  have hw := hR.w
  obtain ⟨sb, sd, PG, PS, obs, hbg, hsd, hof, hinj⟩ := id hst
  have hl : lv_has ls 1 [(0, .ref o)] := hl
  have hE : Ext s.heap s.heap := Ext.rfl'
  refine lv_aload_n hx hb dX1_added_0 rfl (lv_at hl 0 rfl) ?_
  refine r_get (C := RX1) (T := TX1) (N := 5) (ci := 1) X in_X1 rfl 0 (Nat.le_of_ble_eq_true rfl) q280 (fun _ h => h) ob rfl dX1_added_1 ?_
  refine r_getN (C := RX2) (T := TX2) (N := 4) (ci := 2) X in_X2 rfl 2 (Nat.le_of_ble_eq_true rfl) q215 (fun _ h => h) obs rfl dX1_added_4 ?_
  exact r_iret X hL rfl rfl dX1_added_7 (by omega) (by omega) (OQ.q rfl rfl hE)
theorem vb_X1_added : VB yX1_added cX1_added 1 (some .int) 0 := ⟨q1104, q1105, q99, q1106, ⟨by decide, by decide, by decide +kernel⟩⟩

set_option maxRecDepth 100000 in
set_option maxHeartbeats 4000000 in
theorem ct_X1_removed (l : Launch) (g : GT) (F : Nat → Prop) (S : MS) (n st ln : Nat) (hf hs : Bool) (o : Nat)  : Ct l g yX1_removed cX1_removed 1 (some .int) 2 0 0 [.ref o] (SkR g F S n st ln hf hs o) (OQ (q_ S (S.1 0 178))) := by
  refine Ct.of (by decide) (Nat.le_of_ble_eq_true rfl) ?_
  intro p e s m args below meth c X hP ls hl
  have hx := X.1
  have hb := X.2.1
  have hKV := X.2.2.2.2.2.2.2.1.1
  have hL : ∀ q ∈ ([] : List Loc), gLo g ≤ q.base := fun _ h => by cases h
  obtain ⟨sta, dq, sl, bf, x, hh, PB, PD, xs, fs, ob, hst, hR, hn, hbf, hPB, hdq, hsl, hf0, hf1, loo⟩ := hP.v
  have hw := hR.w
  obtain ⟨sb, sd, PG, PS, obs, hbg, hsd, hof, hinj⟩ := id hst
  have hl : lv_has ls 1 [(0, .ref o)] := hl
  have hE : Ext s.heap s.heap := Ext.rfl'
  refine lv_aload_n hx hb dX1_removed_0 rfl (lv_at hl 0 rfl) ?_
  refine r_get (C := RX1) (T := TX1) (N := 5) (ci := 1) X in_X1 rfl 0 (Nat.le_of_ble_eq_true rfl) q280 (fun _ h => h) ob rfl dX1_removed_1 ?_
  refine r_getN (C := RX2) (T := TX2) (N := 4) (ci := 2) X in_X2 rfl 3 (Nat.le_of_ble_eq_true rfl) q217 (fun _ h => h) obs rfl dX1_removed_4 ?_
  exact r_iret X hL rfl rfl dX1_removed_7 (by omega) (by omega) (OQ.q rfl rfl hE)
theorem vb_X1_removed : VB yX1_removed cX1_removed 1 (some .int) 0 := ⟨q1108, q1109, q99, q1110, ⟨by decide, by decide, by decide +kernel⟩⟩

set_option maxRecDepth 100000 in
set_option maxHeartbeats 4000000 in
theorem ct_X1_counting (l : Launch) (g : GT) (F : Nat → Prop) (S : MS) (n st ln : Nat) (hf hs : Bool) (o : Nat)  : Ct l g yX1_counting cX1_counting 1 (some .int) 15 9 141 [.ref o] (SkR g F S n st ln hf hs o) (OQ (q_ S (nI (cnt (cB (S.1 0)) n)))) := by
  refine Ct.of (by decide) (Nat.le_of_ble_eq_true rfl) ?_
  intro p e s m args below meth c X hP ls hl
  have hx := X.1
  have hb := X.2.1
  have hKV := X.2.2.2.2.2.2.2.1.1
  have hL : ∀ q ∈ ([] : List Loc), gLo g ≤ q.base := fun _ h => by cases h
  obtain ⟨sta, dq, sl, bf, x, hh, PB, PD, xs, fs, ob, hst, hR, hn, hbf, hPB, hdq, hsl, hf0, hf1, loo⟩ := hP.v
  have hw := hR.w
  obtain ⟨sb, sd, PG, PS, obs, hbg, hsd, hof, hinj⟩ := id hst
  have hl : lv_has ls 1 [(0, .ref o)] := hl
  have hE : Ext s.heap s.heap := Ext.rfl'
  refine lv_aload_n hx hb dX1_counting_0 rfl (lv_at hl 0 rfl) ?_
  refine r_get (C := RX1) (T := TX1) (N := 5) (ci := 1) X in_X1 rfl 0 (Nat.le_of_ble_eq_true rfl) q280 (fun _ h => h) ob rfl dX1_counting_1 ?_
  refine Ct.callV (ct_X2_active l g (S.1 0) n x sta hn) X hL hl vb_X2_active q998 (hst.recv hKV) rfl rfl (Nat.le_of_ble_eq_true rfl) dX1_counting_4 ⟨Nat.le_of_ble_eq_true rfl, Nat.le_of_ble_eq_true rfl⟩ (by omega) (by omega) hst (fun r H locs hL hp => ?_)
  obtain ⟨ba, hba, rfl, hE1⟩ := hp
  have ob := ob.ext hE1
  have obs := obs.ext hE1
  have hsl := hsl.ext hE1
  have hst := hst.ext hE1
  have hbg := hbg.ext hE1
  have hsd := hsd.ext hE1
  have hof := hof.ext hE1
  have hbf := hbf.ext hE1
  have hdq := hdq.ext hE1
  have hE := hE.trans hE1
  refine Cp.callV (v := .int (nI _)) (ct_X3_size l g _ _ _ ba ) X hL hl vb_X3_size q993 (hba.recv hKV) rfl rfl (Nat.le_of_ble_eq_true rfl) dX1_counting_7 ⟨Nat.le_of_ble_eq_true rfl, Nat.le_of_ble_eq_true rfl⟩ (by omega) (by omega) hba (fun locs hL => ?_)
  exact r_iret X hL rfl rfl dX1_counting_10 (by omega) (by omega) (OQ.q rfl (v_n (jn_act _ _)) hE)
theorem vb_X1_counting : VB yX1_counting cX1_counting 1 (some .int) 0 := ⟨q995, q996, q99, q997, ⟨by decide, by decide, by decide +kernel⟩⟩

set_option maxRecDepth 100000 in
set_option maxHeartbeats 4000000 in
theorem ct_X1_manyTold (l : Launch) (g : GT) (ro : Nat → Int32) (n : Nat) (x : Nat → Nat) (o sta dq sl bf : Nat) (hh : Int64) (hn : n ≤ 40) (hw : WO (mw ro)) : Ct l g yX1_manyTold cX1_manyTold 1 (some .int) 16 18 283 [.ref o] (fun H => SkV g ro n x o sta dq sl bf hh H) (fun r H H1 => r = some (.int (nI (cnt (tellB ro n (hasB (matI (mw ro)))) n))) ∧ Ext H H1) := by
  refine Ct.of (by decide) (Nat.le_of_ble_eq_true rfl) ?_
  intro p e s m args below meth c X hP ls hl
  have hx := X.1
  have hb := X.2.1
  have hKV := X.2.2.2.2.2.2.2.1.1
  have hL : ∀ q ∈ ([] : List Loc), gLo g ≤ q.base := fun _ h => by cases h
  obtain ⟨ob, hst⟩ := hP
  have hl : lv_has ls 1 [(0, .ref o)] := hl
  refine lv_aload_n hx hb dX1_manyTold_0 rfl (lv_at hl 0 rfl) ?_
  refine r_get (C := RX1) (T := TX1) (N := 5) (ci := 1) X in_X1 rfl 0 (Nat.le_of_ble_eq_true rfl) q280 (fun _ h => h) ob rfl dX1_manyTold_1 ?_
  refine lv_aload_n hx hb dX1_manyTold_4 rfl (lv_at hl 0 rfl) ?_
  refine r_get (C := RX1) (T := TX1) (N := 5) (ci := 1) X in_X1 rfl 0 (Nat.le_of_ble_eq_true rfl) q280 (fun _ h => h) ob rfl dX1_manyTold_5 ?_
  refine Ct.callV (ct_X2_active l g ro n x sta hn) X hL hl vb_X2_active q998 (hst.recv hKV) rfl rfl (Nat.le_of_ble_eq_true rfl) dX1_manyTold_8 ⟨Nat.le_of_ble_eq_true rfl, Nat.le_of_ble_eq_true rfl⟩ (by omega) (by omega) hst (fun r H locs hL hp => ?_)
  obtain ⟨ba, hba, rfl, hE1⟩ := hp
  have ob := ob.ext hE1
  have hst := hst.ext hE1
  refine Ct.callV (ct_X2_told l g ro x sta (actL ro n) ba hw (act_len hn)) X hL hl vb_X2_told q1007 (hst.recv hKV) rfl rfl (Nat.le_of_ble_eq_true rfl) dX1_manyTold_11 ⟨Nat.le_of_ble_eq_true rfl, Nat.le_of_ble_eq_true rfl⟩ (by omega) (by omega) ⟨hst.sd, ⟨_, hba⟩, hst.of.sub (fun i hi => act_in hi)⟩ (fun r H locs hL hp => ?_)
  obtain ⟨bt, hbt, rfl, hE2⟩ := hp
  refine Cp.callV (v := .int (nI _)) (ct_X3_size l g _ _ _ bt ) X hL hl vb_X3_size q993 (hbt.recv hKV) rfl rfl (Nat.le_of_ble_eq_true rfl) dX1_manyTold_14 ⟨Nat.le_of_ble_eq_true rfl, Nat.le_of_ble_eq_true rfl⟩ (by omega) (by omega) hbt (fun locs hL => ?_)
  exact r_iret X hL rfl rfl dX1_manyTold_17 (by omega) (by omega) ⟨v_n (jn_tol _ _), hE1.trans hE2⟩
theorem vb_X1_manyTold : VB yX1_manyTold cX1_manyTold 1 (some .int) 0 := ⟨q1005, qs20, q99, q1006, ⟨by decide, by decide, by decide +kernel⟩⟩

set_option maxRecDepth 100000 in
set_option maxHeartbeats 4000000 in
theorem ct_X1_toldByPairs (l : Launch) (g : GT) (F : Nat → Prop) (S : MS) (n st ln : Nat) (hf hs : Bool) (o : Nat)  : Ct l g yX1_toldByPairs cX1_toldByPairs 1 (some .int) 17 18 283 [.ref o] (SkR g F S n st ln hf hs o) (OQ (q_ S (nI (cnt (tellB (S.1 0) n (hasB (matI (mw (S.1 0))))) n)))) := by
  refine Ct.of (by decide) (Nat.le_of_ble_eq_true rfl) ?_
  intro p e s m args below meth c X hP ls hl
  have hx := X.1
  have hb := X.2.1
  have hKV := X.2.2.2.2.2.2.2.1.1
  have hL : ∀ q ∈ ([] : List Loc), gLo g ≤ q.base := fun _ h => by cases h
  obtain ⟨sta, dq, sl, bf, x, hh, PB, PD, xs, fs, ob, hst, hR, hn, hbf, hPB, hdq, hsl, hf0, hf1, loo⟩ := hP.v
  have hw := hR.w
  obtain ⟨sb, sd, PG, PS, obs, hbg, hsd, hof, hinj⟩ := id hst
  have hl : lv_has ls 1 [(0, .ref o)] := hl
  have hE : Ext s.heap s.heap := Ext.rfl'
  refine lv_aload_n hx hb dX1_toldByPairs_0 rfl (lv_at hl 0 rfl) ?_
  refine Ct.callV (ct_X1_manyTold l g (S.1 0) n x o sta dq sl bf hh hn hw) X hL hl vb_X1_manyTold q1003 (ob.recv hKV rfl) rfl rfl (Nat.le_of_ble_eq_true rfl) dX1_toldByPairs_1 ⟨Nat.le_of_ble_eq_true rfl, Nat.le_of_ble_eq_true rfl⟩ (by omega) (by omega) ⟨ob, hst⟩ (fun r H locs hL hp => ?_)
  obtain ⟨rfl, hE1⟩ := hp
  have ob := ob.ext hE1
  have obs := obs.ext hE1
  have hsl := hsl.ext hE1
  have hst := hst.ext hE1
  have hbg := hbg.ext hE1
  have hsd := hsd.ext hE1
  have hof := hof.ext hE1
  have hbf := hbf.ext hE1
  have hdq := hdq.ext hE1
  have hE := hE.trans hE1
  exact r_iret X hL rfl rfl dX1_toldByPairs_4 (by omega) (by omega) (OQ.q rfl rfl hE)
theorem vb_X1_toldByPairs : VB yX1_toldByPairs cX1_toldByPairs 1 (some .int) 0 := ⟨q1000, q1001, q99, q1002, ⟨by decide, by decide, by decide +kernel⟩⟩

set_option maxRecDepth 100000 in
set_option maxHeartbeats 4000000 in
theorem ct_X1_toldBySums (l : Launch) (g : GT) (F : Nat → Prop) (S : MS) (n st ln : Nat) (hf hs : Bool) (o : Nat)  : Ct l g yX1_toldBySums cX1_toldBySums 1 (some .int) 15 40 640 [.ref o] (SkR g F S n st ln hf hs o) (OQ (q_ S (nI (cnt (tellB (S.1 0) n (hasB (matI (mw (S.1 0))))) n)))) := by
  refine Ct.of (by decide) (Nat.le_of_ble_eq_true rfl) ?_
  intro p e s m args below meth c X hP ls hl
  have hx := X.1
  have hb := X.2.1
  have hKV := X.2.2.2.2.2.2.2.1.1
  have hL : ∀ q ∈ ([] : List Loc), gLo g ≤ q.base := fun _ h => by cases h
  obtain ⟨sta, dq, sl, bf, x, hh, PB, PD, xs, fs, ob, hst, hR, hn, hbf, hPB, hdq, hsl, hf0, hf1, loo⟩ := hP.v
  have hw := hR.w
  obtain ⟨sb, sd, PG, PS, obs, hbg, hsd, hof, hinj⟩ := id hst
  have hl : lv_has ls 1 [(0, .ref o)] := hl
  have hE : Ext s.heap s.heap := Ext.rfl'
  refine lv_aload_n hx hb dX1_toldBySums_0 rfl (lv_at hl 0 rfl) ?_
  refine r_get (C := RX1) (T := TX1) (N := 5) (ci := 1) X in_X1 rfl 0 (Nat.le_of_ble_eq_true rfl) q280 (fun _ h => h) ob rfl dX1_toldBySums_1 ?_
  refine Ct.callV (ct_X2_bySums l g (S.1 0) n x sta hn hw) X hL hl vb_X2_bySums q1012 (hst.recv hKV) rfl rfl (Nat.le_of_ble_eq_true rfl) dX1_toldBySums_4 ⟨Nat.le_of_ble_eq_true rfl, Nat.le_of_ble_eq_true rfl⟩ (by omega) (by omega) hst (fun r H locs hL hp => ?_)
  obtain ⟨rfl, hE1⟩ := hp
  have ob := ob.ext hE1
  have obs := obs.ext hE1
  have hsl := hsl.ext hE1
  have hst := hst.ext hE1
  have hbg := hbg.ext hE1
  have hsd := hsd.ext hE1
  have hof := hof.ext hE1
  have hbf := hbf.ext hE1
  have hdq := hdq.ext hE1
  have hE := hE.trans hE1
  exact r_iret X hL rfl rfl dX1_toldBySums_7 (by omega) (by omega) (OQ.q rfl (v_n (sums_len hR)) hE)
theorem vb_X1_toldBySums : VB yX1_toldBySums cX1_toldBySums 1 (some .int) 0 := ⟨q1009, q1010, q99, q1011, ⟨by decide, by decide, by decide +kernel⟩⟩

set_option maxRecDepth 100000 in
set_option maxHeartbeats 4000000 in
theorem ct_X1_coveredByTwo (l : Launch) (g : GT) (F : Nat → Prop) (S : MS) (n st ln : Nat) (hf hs : Bool) (o : Nat)  : Ct l g yX1_coveredByTwo cX1_coveredByTwo 1 (some .int) 15 19 323 [.ref o] (SkR g F S n st ln hf hs o) (OQ (q_ S (nI (twA (S.1 0) n (tellB (S.1 0) n (hasB (matI (mw (S.1 0))))) n)))) := by
  refine Ct.of (by decide) (Nat.le_of_ble_eq_true rfl) ?_
  intro p e s m args below meth c X hP ls hl
  have hx := X.1
  have hb := X.2.1
  have hKV := X.2.2.2.2.2.2.2.1.1
  have hL : ∀ q ∈ ([] : List Loc), gLo g ≤ q.base := fun _ h => by cases h
  obtain ⟨sta, dq, sl, bf, x, hh, PB, PD, xs, fs, ob, hst, hR, hn, hbf, hPB, hdq, hsl, hf0, hf1, loo⟩ := hP.v
  have hw := hR.w
  obtain ⟨sb, sd, PG, PS, obs, hbg, hsd, hof, hinj⟩ := id hst
  have hl : lv_has ls 1 [(0, .ref o)] := hl
  have hE : Ext s.heap s.heap := Ext.rfl'
  refine lv_aload_n hx hb dX1_coveredByTwo_0 rfl (lv_at hl 0 rfl) ?_
  refine r_get (C := RX1) (T := TX1) (N := 5) (ci := 1) X in_X1 rfl 0 (Nat.le_of_ble_eq_true rfl) q280 (fun _ h => h) ob rfl dX1_coveredByTwo_1 ?_
  refine Ct.callV (ct_X2_bestByTwo l g (S.1 0) n x sta hn hw) X hL hl vb_X2_bestByTwo q1090 (hst.recv hKV) rfl rfl (Nat.le_of_ble_eq_true rfl) dX1_coveredByTwo_4 ⟨Nat.le_of_ble_eq_true rfl, Nat.le_of_ble_eq_true rfl⟩ (by omega) (by omega) hst (fun r H locs hL hp => ?_)
  obtain ⟨rfl, hE1⟩ := hp
  have ob := ob.ext hE1
  have obs := obs.ext hE1
  have hsl := hsl.ext hE1
  have hst := hst.ext hE1
  have hbg := hbg.ext hE1
  have hsd := hsd.ext hE1
  have hof := hof.ext hE1
  have hbf := hbf.ext hE1
  have hdq := hdq.ext hE1
  have hE := hE.trans hE1
  exact r_iret X hL rfl rfl dX1_coveredByTwo_7 (by omega) (by omega) (OQ.q rfl rfl hE)
theorem vb_X1_coveredByTwo : VB yX1_coveredByTwo cX1_coveredByTwo 1 (some .int) 0 := ⟨q1087, q1088, q99, q1089, ⟨by decide, by decide, by decide +kernel⟩⟩

set_option maxRecDepth 100000 in
set_option maxHeartbeats 4000000 in
theorem ct_X1_beatings (l : Launch) (g : GT) (F : Nat → Prop) (S : MS) (n st ln : Nat) (hf hs : Bool) (o : Nat)  : Ct l g yX1_beatings cX1_beatings 1 (some .int) 15 40 80 [.ref o] (SkR g F S n st ln hf hs o) (OQ (q_ S (nI (sumN (beaN (S.1 0) n) n)))) := by
  refine Ct.of (by decide) (Nat.le_of_ble_eq_true rfl) ?_
  intro p e s m args below meth c X hP ls hl
  have hx := X.1
  have hb := X.2.1
  have hKV := X.2.2.2.2.2.2.2.1.1
  have hL : ∀ q ∈ ([] : List Loc), gLo g ≤ q.base := fun _ h => by cases h
  obtain ⟨sta, dq, sl, bf, x, hh, PB, PD, xs, fs, ob, hst, hR, hn, hbf, hPB, hdq, hsl, hf0, hf1, loo⟩ := hP.v
  have hw := hR.w
  obtain ⟨sb, sd, PG, PS, obs, hbg, hsd, hof, hinj⟩ := id hst
  have hl : lv_has ls 1 [(0, .ref o)] := hl
  have hE : Ext s.heap s.heap := Ext.rfl'
  refine lv_aload_n hx hb dX1_beatings_0 rfl (lv_at hl 0 rfl) ?_
  refine r_get (C := RX1) (T := TX1) (N := 5) (ci := 1) X in_X1 rfl 0 (Nat.le_of_ble_eq_true rfl) q280 (fun _ h => h) ob rfl dX1_beatings_1 ?_
  refine Ct.callV (ct_X2_pairsBeaten l g (S.1 0) n x sta hn hw) X hL hl vb_X2_pairsBeaten q1115 (hst.recv hKV) rfl rfl (Nat.le_of_ble_eq_true rfl) dX1_beatings_4 ⟨Nat.le_of_ble_eq_true rfl, Nat.le_of_ble_eq_true rfl⟩ (by omega) (by omega) hst (fun r H locs hL hp => ?_)
  obtain ⟨rfl, hE1⟩ := hp
  have ob := ob.ext hE1
  have obs := obs.ext hE1
  have hsl := hsl.ext hE1
  have hst := hst.ext hE1
  have hbg := hbg.ext hE1
  have hsd := hsd.ext hE1
  have hof := hof.ext hE1
  have hbf := hbf.ext hE1
  have hdq := hdq.ext hE1
  have hE := hE.trans hE1
  exact r_iret X hL rfl rfl dX1_beatings_7 (by omega) (by omega) (OQ.q rfl (v_n (jn_sum _ _)) hE)
theorem vb_X1_beatings : VB yX1_beatings cX1_beatings 1 (some .int) 0 := ⟨q1112, q1113, q99, q1114, ⟨by decide, by decide, by decide +kernel⟩⟩

set_option maxRecDepth 100000 in
set_option maxHeartbeats 4000000 in
theorem ct_X1_toldShare (l : Launch) (g : GT) (F : Nat → Prop) (S : MS) (n st ln : Nat) (hf hs : Bool) (o : Nat)  : Ct l g yX1_toldShare cX1_toldShare 1 (some .double) 15 27 424 [.ref o] (SkR g F S n st ln hf hs o) (OQ (q_d S (shF (cnt (tellB (S.1 0) n (hasB (matI (mw (S.1 0))))) n) (cnt (cB (S.1 0)) n)))) := by
  refine Ct.of (by decide) (Nat.le_of_ble_eq_true rfl) ?_
  intro p e s m args below meth c X hP ls hl
  have hx := X.1
  have hb := X.2.1
  have hKV := X.2.2.2.2.2.2.2.1.1
  have hL : ∀ q ∈ ([] : List Loc), gLo g ≤ q.base := fun _ h => by cases h
  obtain ⟨sta, dq, sl, bf, x, hh, PB, PD, xs, fs, ob, hst, hR, hn, hbf, hPB, hdq, hsl, hf0, hf1, loo⟩ := hP.v
  have hw := hR.w
  obtain ⟨sb, sd, PG, PS, obs, hbg, hsd, hof, hinj⟩ := id hst
  have hl : lv_has ls 1 [(0, .ref o)] := hl
  have hE : Ext s.heap s.heap := Ext.rfl'
  refine lv_aload_n hx hb dX1_toldShare_0 rfl (lv_at hl 0 rfl) ?_
  refine r_get (C := RX1) (T := TX1) (N := 5) (ci := 1) X in_X1 rfl 0 (Nat.le_of_ble_eq_true rfl) q280 (fun _ h => h) ob rfl dX1_toldShare_1 ?_
  refine Ct.callV (ct_X2_share l g (S.1 0) n x sta hn hw) X hL hl vb_X2_share q1135 (hst.recv hKV) rfl rfl (Nat.le_of_ble_eq_true rfl) dX1_toldShare_4 ⟨Nat.le_of_ble_eq_true rfl, Nat.le_of_ble_eq_true rfl⟩ (by omega) (by omega) hst (fun r H locs hL hp => ?_)
  obtain ⟨rfl, hE1⟩ := hp
  have ob := ob.ext hE1
  have obs := obs.ext hE1
  have hsl := hsl.ext hE1
  have hst := hst.ext hE1
  have hbg := hbg.ext hE1
  have hsd := hsd.ext hE1
  have hof := hof.ext hE1
  have hbf := hbf.ext hE1
  have hdq := hdq.ext hE1
  have hE := hE.trans hE1
  exact r_dret X hL dX1_toldShare_7 (by omega) (by omega) ⟨rfl, by rw [jn_sh]; rfl, hE⟩
theorem vb_X1_toldShare : VB yX1_toldShare cX1_toldShare 1 (some .double) 0 := ⟨q1132, q1133, q99, q1134, ⟨by decide, by decide, by decide +kernel⟩⟩

set_option maxRecDepth 100000 in
set_option maxHeartbeats 4000000 in
theorem ct_X1_layers (l : Launch) (g : GT) (F : Nat → Prop) (S : MS) (n st ln : Nat) (hf hs : Bool) (o : Nat)  : Ct l g yX1_layers cX1_layers 1 (some .int) 20 2500 17000 [.ref o] (SkR g F S n st ln hf hs o) (OQ (q_ S (nI (maxN (LY (S.1 0) n) n)))) := by
  refine Ct.of (by decide) (Nat.le_of_ble_eq_true rfl) ?_
  intro p e s m args below meth c X hP ls hl
  have hx := X.1
  have hb := X.2.1
  have hKV := X.2.2.2.2.2.2.2.1.1
  have hL : ∀ q ∈ ([] : List Loc), gLo g ≤ q.base := fun _ h => by cases h
  obtain ⟨sta, dq, sl, bf, x, hh, PB, PD, xs, fs, ob, hst, hR, hn, hbf, hPB, hdq, hsl, hf0, hf1, loo⟩ := hP.v
  have hw := hR.w
  obtain ⟨sb, sd, PG, PS, obs, hbg, hsd, hof, hinj⟩ := id hst
  have hl : lv_has ls 1 [(0, .ref o)] := hl
  have hE : Ext s.heap s.heap := Ext.rfl'
  refine lv_aload_n hx hb dX1_layers_0 rfl (lv_at hl 0 rfl) ?_
  refine r_get (C := RX1) (T := TX1) (N := 5) (ci := 1) X in_X1 rfl 0 (Nat.le_of_ble_eq_true rfl) q280 (fun _ h => h) ob rfl dX1_layers_1 ?_
  refine lv_aload_n hx hb dX1_layers_4 rfl (lv_at hl 0 rfl) ?_
  refine r_get (C := RX1) (T := TX1) (N := 5) (ci := 1) X in_X1 rfl 0 (Nat.le_of_ble_eq_true rfl) q280 (fun _ h => h) ob rfl dX1_layers_5 ?_
  refine Ct.callV (ct_X2_peeled l g (S.1 0) n x sta hn hw hR) X hL hl vb_X2_peeled q1069 (hst.recv hKV) rfl rfl (Nat.le_of_ble_eq_true rfl) dX1_layers_8 ⟨Nat.le_of_ble_eq_true rfl, Nat.le_of_ble_eq_true rfl⟩ (by omega) (by omega) hst (fun r H locs hL hp => ?_)
  obtain ⟨lb, lbf, ⟨hlb, -, hlbf⟩, rfl, hE1⟩ := hp
  have ob := ob.ext hE1
  have obs := obs.ext hE1
  have hsl := hsl.ext hE1
  have hst := hst.ext hE1
  have hbg := hbg.ext hE1
  have hsd := hsd.ext hE1
  have hof := hof.ext hE1
  have hbf := hbf.ext hE1
  have hdq := hdq.ext hE1
  have hE := hE.trans hE1
  refine Cp.callV (v := .int (nI (maxN (LY (S.1 0) n) n))) (ct_X2_greatestOf l g sta lb n lbf (LY (S.1 0) n) hn hlbf (fun j _ => Nat.le_trans (LY_le _ _ _) (by omega))) X hL hl vb_X2_greatestOf q1081 (hst.recv hKV) rfl rfl (Nat.le_of_ble_eq_true rfl) dX1_layers_11 ⟨Nat.le_of_ble_eq_true rfl, Nat.le_of_ble_eq_true rfl⟩ (by omega) (by omega) hlb (fun locs hL => ?_)
  exact r_iret X hL rfl rfl dX1_layers_14 (by omega) (by omega) (OQ.q rfl rfl hE)
theorem vb_X1_layers : VB yX1_layers cX1_layers 1 (some .int) 0 := ⟨q1066, q1067, q99, q1068, ⟨by decide, by decide, by decide +kernel⟩⟩

set_option maxRecDepth 100000 in
set_option maxHeartbeats 4000000 in
theorem ct_X1_isCounted (l : Launch) (g : GT) (F : Nat → Prop) (S : MS) (n st ln : Nat) (hf hs : Bool) (o : Nat) (i : Int32) (hl0 : l.stackTraces = false) : Ce l g yX1_isCounted cX1_isCounted 2 (some .boolean) 10 1 6 [.ref o, .int i] (SkR g F S n st ln hf hs o) (OQ (s_one S n i (fun i => bI (cB (S.1 0) i)))) (OX "java/lang/IndexOutOfBoundsException" "" (s_one S n i (fun i => bI (cB (S.1 0) i)))) := by
  refine Ce.of (by decide) (Nat.le_of_ble_eq_true rfl) ?_
  intro p e s m args below meth c X ht hP ls hl
  have hx := X.1
  have hb := X.2.1
  have hKV := X.2.2.2.2.2.2.2.1.1
  have hL : ∀ q ∈ ([] : List Loc), gLo g ≤ q.base := fun _ h => by cases h
  obtain ⟨sta, dq, sl, bf, x, hh, PB, PD, xs, fs, ob, hst, hR, hn, hbf, hPB, hdq, hsl, hf0, hf1, loo⟩ := hP.v
  have hw := hR.w
  obtain ⟨sb, sd, PG, PS, obs, hbg, hsd, hof, hinj⟩ := id hst
  have hl : lv_has ls 2 [(0, .ref o), (1, .int i)] := hl
  have hE : Ext s.heap s.heap := Ext.rfl'
  refine lv_aload_n hx hb dX1_isCounted_0 rfl (lv_at hl 0 rfl) ?_
  refine r_get (C := RX1) (T := TX1) (N := 5) (ci := 1) X in_X1 rfl 0 (Nat.le_of_ble_eq_true rfl) q280 (fun _ h => h) ob rfl dX1_isCounted_1 ?_
  refine r_getN (C := RX2) (T := TX2) (N := 4) (ci := 2) X in_X2 rfl 1 (Nat.le_of_ble_eq_true rfl) q213 (fun _ h => h) obs rfl dX1_isCounted_4 ?_
  refine lv_aload_n hx hb dX1_isCounted_7 rfl (lv_at hl 0 rfl) ?_
  refine lv_iload_n hx hb dX1_isCounted_8 rfl (lv_at hl 1 rfl) ?_
  refine Ce.callV (ct_X1_at l g (S.1 0) n x o sta dq sl bf hh i hl0 hn) X ht hL hl vb_X1_at q1559 (ob.recv hKV rfl) rfl rfl (Nat.le_of_ble_eq_true rfl) dX1_isCounted_9 ⟨Nat.le_of_ble_eq_true rfl, Nat.le_of_ble_eq_true rfl⟩ (by omega) (by omega) ⟨ob, hst⟩ (fun E1 H1 hx => ⟨Or.inl ⟨hx.1, s_one_t hx.2.1⟩, hE.trans hx.2.2⟩) (fun r H locs hL hp => ?_)
  obtain ⟨hnb, rfl, hE1⟩ := hp
  have ob := ob.ext hE1
  have obs := obs.ext hE1
  have hsl := hsl.ext hE1
  have hst := hst.ext hE1
  have hbg := hbg.ext hE1
  have hsd := hsd.ext hE1
  have hof := hof.ext hE1
  have hbf := hbf.ext hE1
  have hdq := hdq.ext hE1
  have hE := hE.trans hE1
  obtain ⟨hic, hil⟩ := noB_nat hn hnb
  have hoi := hof _ (rng_mem hil)
  obtain ⟨I, hofi⟩ := id hoi
  refine Cp.callV (v := .int (bI (cB (S.1 0) i.toNatClampNeg))) (ct_X4_counts l g PS (S.1 0) sd I (mv (S.1 0) i.toNatClampNeg) (x i.toNatClampNeg) ) X hL hl vb_X4_counts q1177 (hsd.recv hKV) rfl rfl (Nat.le_of_ble_eq_true rfl) dX1_isCounted_12 ⟨Nat.le_of_ble_eq_true rfl, Nat.le_of_ble_eq_true rfl⟩ (by omega) (by omega) ⟨hsd, hofi⟩ (fun locs hL => ?_)
  exact vx_ret (r_iret X hL rfl (narrow_bI _) dX1_isCounted_15 (by omega) (by omega) (OQ.q (s_one_f hnb) (rfl) hE))
theorem vb_X1_isCounted : VB yX1_isCounted cX1_isCounted 2 (some .boolean) 1 := ⟨q1595, q1596, q99, q1597, ⟨by decide, by decide, by decide +kernel⟩⟩

set_option maxRecDepth 100000 in
set_option maxHeartbeats 4000000 in
theorem ct_X1_scoreOf (l : Launch) (g : GT) (F : Nat → Prop) (S : MS) (n st ln : Nat) (hf hs : Bool) (o : Nat) (i : Int32) (hl0 : l.stackTraces = false) : Ce l g yX1_scoreOf cX1_scoreOf 2 (some .int) 10 1 6 [.ref o, .int i] (SkR g F S n st ln hf hs o) (OQ (s_one S n i (fun i => scoI (S.1 0) i))) (OX "java/lang/IndexOutOfBoundsException" "" (s_one S n i (fun i => scoI (S.1 0) i))) := by
  refine Ce.of (by decide) (Nat.le_of_ble_eq_true rfl) ?_
  intro p e s m args below meth c X ht hP ls hl
  have hx := X.1
  have hb := X.2.1
  have hKV := X.2.2.2.2.2.2.2.1.1
  have hL : ∀ q ∈ ([] : List Loc), gLo g ≤ q.base := fun _ h => by cases h
  obtain ⟨sta, dq, sl, bf, x, hh, PB, PD, xs, fs, ob, hst, hR, hn, hbf, hPB, hdq, hsl, hf0, hf1, loo⟩ := hP.v
  have hw := hR.w
  obtain ⟨sb, sd, PG, PS, obs, hbg, hsd, hof, hinj⟩ := id hst
  have hl : lv_has ls 2 [(0, .ref o), (1, .int i)] := hl
  have hE : Ext s.heap s.heap := Ext.rfl'
  refine lv_aload_n hx hb dX1_scoreOf_0 rfl (lv_at hl 0 rfl) ?_
  refine r_get (C := RX1) (T := TX1) (N := 5) (ci := 1) X in_X1 rfl 0 (Nat.le_of_ble_eq_true rfl) q280 (fun _ h => h) ob rfl dX1_scoreOf_1 ?_
  refine r_getN (C := RX2) (T := TX2) (N := 4) (ci := 2) X in_X2 rfl 1 (Nat.le_of_ble_eq_true rfl) q213 (fun _ h => h) obs rfl dX1_scoreOf_4 ?_
  refine lv_aload_n hx hb dX1_scoreOf_7 rfl (lv_at hl 0 rfl) ?_
  refine lv_iload_n hx hb dX1_scoreOf_8 rfl (lv_at hl 1 rfl) ?_
  refine Ce.callV (ct_X1_at l g (S.1 0) n x o sta dq sl bf hh i hl0 hn) X ht hL hl vb_X1_at q1559 (ob.recv hKV rfl) rfl rfl (Nat.le_of_ble_eq_true rfl) dX1_scoreOf_9 ⟨Nat.le_of_ble_eq_true rfl, Nat.le_of_ble_eq_true rfl⟩ (by omega) (by omega) ⟨ob, hst⟩ (fun E1 H1 hx => ⟨Or.inl ⟨hx.1, s_one_t hx.2.1⟩, hE.trans hx.2.2⟩) (fun r H locs hL hp => ?_)
  obtain ⟨hnb, rfl, hE1⟩ := hp
  have ob := ob.ext hE1
  have obs := obs.ext hE1
  have hsl := hsl.ext hE1
  have hst := hst.ext hE1
  have hbg := hbg.ext hE1
  have hsd := hsd.ext hE1
  have hof := hof.ext hE1
  have hbf := hbf.ext hE1
  have hdq := hdq.ext hE1
  have hE := hE.trans hE1
  obtain ⟨hic, hil⟩ := noB_nat hn hnb
  have hoi := hof _ (rng_mem hil)
  obtain ⟨I, hofi⟩ := id hoi
  refine Cp.callV (v := .int (scoI (S.1 0) i.toNatClampNeg)) (ct_X4_score l g PS (S.1 0) sd I (mv (S.1 0) i.toNatClampNeg) (x i.toNatClampNeg) hw) X hL hl vb_X4_score q1199 (hsd.recv hKV) rfl rfl (Nat.le_of_ble_eq_true rfl) dX1_scoreOf_12 ⟨Nat.le_of_ble_eq_true rfl, Nat.le_of_ble_eq_true rfl⟩ (by omega) (by omega) ⟨hsd, hofi⟩ (fun locs hL => ?_)
  exact vx_ret (r_iret X hL rfl rfl dX1_scoreOf_15 (by omega) (by omega) (OQ.q (s_one_f hnb) (rfl) hE))
theorem vb_X1_scoreOf : VB yX1_scoreOf cX1_scoreOf 2 (some .int) 1 := ⟨q1786, q1787, q99, q1788, ⟨by decide, by decide, by decide +kernel⟩⟩

set_option maxRecDepth 100000 in
set_option maxHeartbeats 4000000 in
theorem ct_X1_beatersOf (l : Launch) (g : GT) (F : Nat → Prop) (S : MS) (n st ln : Nat) (hf hs : Bool) (o : Nat) (i : Int32) (hl0 : l.stackTraces = false) : Ce l g yX1_beatersOf cX1_beatersOf 2 (some .int) 14 2 8 [.ref o, .int i] (SkR g F S n st ln hf hs o) (OQ (s_one S n i (fun i => nI (cnt (fun j => beatB (S.1 0) j i) n)))) (OX "java/lang/IndexOutOfBoundsException" "" (s_one S n i (fun i => nI (cnt (fun j => beatB (S.1 0) j i) n)))) := by
  refine Ce.of (by decide) (Nat.le_of_ble_eq_true rfl) ?_
  intro p e s m args below meth c X ht hP ls hl
  have hx := X.1
  have hb := X.2.1
  have hKV := X.2.2.2.2.2.2.2.1.1
  have hL : ∀ q ∈ ([] : List Loc), gLo g ≤ q.base := fun _ h => by cases h
  obtain ⟨sta, dq, sl, bf, x, hh, PB, PD, xs, fs, ob, hst, hR, hn, hbf, hPB, hdq, hsl, hf0, hf1, loo⟩ := hP.v
  have hw := hR.w
  obtain ⟨sb, sd, PG, PS, obs, hbg, hsd, hof, hinj⟩ := id hst
  have hl : lv_has ls 2 [(0, .ref o), (1, .int i)] := hl
  have hE : Ext s.heap s.heap := Ext.rfl'
  refine lv_aload_n hx hb dX1_beatersOf_0 rfl (lv_at hl 0 rfl) ?_
  refine r_get (C := RX1) (T := TX1) (N := 5) (ci := 1) X in_X1 rfl 0 (Nat.le_of_ble_eq_true rfl) q280 (fun _ h => h) ob rfl dX1_beatersOf_1 ?_
  refine lv_aload_n hx hb dX1_beatersOf_4 rfl (lv_at hl 0 rfl) ?_
  refine lv_iload_n hx hb dX1_beatersOf_5 rfl (lv_at hl 1 rfl) ?_
  refine Ce.callV (ct_X1_at l g (S.1 0) n x o sta dq sl bf hh i hl0 hn) X ht hL hl vb_X1_at q1559 (ob.recv hKV rfl) rfl rfl (Nat.le_of_ble_eq_true rfl) dX1_beatersOf_6 ⟨Nat.le_of_ble_eq_true rfl, Nat.le_of_ble_eq_true rfl⟩ (by omega) (by omega) ⟨ob, hst⟩ (fun E1 H1 hx => ⟨Or.inl ⟨hx.1, s_one_t hx.2.1⟩, hE.trans hx.2.2⟩) (fun r H locs hL hp => ?_)
  obtain ⟨hnb, rfl, hE1⟩ := hp
  have ob := ob.ext hE1
  have obs := obs.ext hE1
  have hsl := hsl.ext hE1
  have hst := hst.ext hE1
  have hbg := hbg.ext hE1
  have hsd := hsd.ext hE1
  have hof := hof.ext hE1
  have hbf := hbf.ext hE1
  have hdq := hdq.ext hE1
  have hE := hE.trans hE1
  obtain ⟨hic, hil⟩ := noB_nat hn hnb
  have hoi := hof _ (rng_mem hil)
  obtain ⟨I, hofi⟩ := id hoi
  refine Ct.callV (ct_X2_beaters l g (S.1 0) n x sta (mv (S.1 0) i.toNatClampNeg) (x i.toNatClampNeg) hn hw) X hL hl vb_X2_beaters q1179 (hst.recv hKV) rfl rfl (Nat.le_of_ble_eq_true rfl) dX1_beatersOf_9 ⟨Nat.le_of_ble_eq_true rfl, Nat.le_of_ble_eq_true rfl⟩ (by omega) (by omega) ⟨hst, hoi⟩ (fun r H locs hL hp => ?_)
  obtain ⟨rfl, hE1⟩ := hp
  have ob := ob.ext hE1
  have obs := obs.ext hE1
  have hsl := hsl.ext hE1
  have hst := hst.ext hE1
  have hbg := hbg.ext hE1
  have hsd := hsd.ext hE1
  have hof := hof.ext hE1
  have hbf := hbf.ext hE1
  have hdq := hdq.ext hE1
  have hE := hE.trans hE1
  exact vx_ret (r_iret X hL rfl rfl dX1_beatersOf_12 (by omega) (by omega) (OQ.q (s_one_f hnb) (v_n (jn_bs _ _ _)) hE))
theorem vb_X1_beatersOf : VB yX1_beatersOf cX1_beatersOf 2 (some .int) 1 := ⟨q1618, q1619, q99, q1620, ⟨by decide, by decide, by decide +kernel⟩⟩

set_option maxRecDepth 100000 in
set_option maxHeartbeats 4000000 in
theorem ct_X1_beatenBy (l : Launch) (g : GT) (F : Nat → Prop) (S : MS) (n st ln : Nat) (hf hs : Bool) (o : Nat) (i : Int32) (hl0 : l.stackTraces = false) : Ce l g yX1_beatenBy cX1_beatenBy 2 (some .int) 14 2 8 [.ref o, .int i] (SkR g F S n st ln hf hs o) (OQ (s_one S n i (fun i => nI (cnt (beatB (S.1 0) i) n)))) (OX "java/lang/IndexOutOfBoundsException" "" (s_one S n i (fun i => nI (cnt (beatB (S.1 0) i) n)))) := by
  refine Ce.of (by decide) (Nat.le_of_ble_eq_true rfl) ?_
  intro p e s m args below meth c X ht hP ls hl
  have hx := X.1
  have hb := X.2.1
  have hKV := X.2.2.2.2.2.2.2.1.1
  have hL : ∀ q ∈ ([] : List Loc), gLo g ≤ q.base := fun _ h => by cases h
  obtain ⟨sta, dq, sl, bf, x, hh, PB, PD, xs, fs, ob, hst, hR, hn, hbf, hPB, hdq, hsl, hf0, hf1, loo⟩ := hP.v
  have hw := hR.w
  obtain ⟨sb, sd, PG, PS, obs, hbg, hsd, hof, hinj⟩ := id hst
  have hl : lv_has ls 2 [(0, .ref o), (1, .int i)] := hl
  have hE : Ext s.heap s.heap := Ext.rfl'
  refine lv_aload_n hx hb dX1_beatenBy_0 rfl (lv_at hl 0 rfl) ?_
  refine r_get (C := RX1) (T := TX1) (N := 5) (ci := 1) X in_X1 rfl 0 (Nat.le_of_ble_eq_true rfl) q280 (fun _ h => h) ob rfl dX1_beatenBy_1 ?_
  refine lv_aload_n hx hb dX1_beatenBy_4 rfl (lv_at hl 0 rfl) ?_
  refine lv_iload_n hx hb dX1_beatenBy_5 rfl (lv_at hl 1 rfl) ?_
  refine Ce.callV (ct_X1_at l g (S.1 0) n x o sta dq sl bf hh i hl0 hn) X ht hL hl vb_X1_at q1559 (ob.recv hKV rfl) rfl rfl (Nat.le_of_ble_eq_true rfl) dX1_beatenBy_6 ⟨Nat.le_of_ble_eq_true rfl, Nat.le_of_ble_eq_true rfl⟩ (by omega) (by omega) ⟨ob, hst⟩ (fun E1 H1 hx => ⟨Or.inl ⟨hx.1, s_one_t hx.2.1⟩, hE.trans hx.2.2⟩) (fun r H locs hL hp => ?_)
  obtain ⟨hnb, rfl, hE1⟩ := hp
  have ob := ob.ext hE1
  have obs := obs.ext hE1
  have hsl := hsl.ext hE1
  have hst := hst.ext hE1
  have hbg := hbg.ext hE1
  have hsd := hsd.ext hE1
  have hof := hof.ext hE1
  have hbf := hbf.ext hE1
  have hdq := hdq.ext hE1
  have hE := hE.trans hE1
  obtain ⟨hic, hil⟩ := noB_nat hn hnb
  have hoi := hof _ (rng_mem hil)
  obtain ⟨I, hofi⟩ := id hoi
  refine Ct.callV (ct_X2_beaten l g (S.1 0) n x sta (mv (S.1 0) i.toNatClampNeg) (x i.toNatClampNeg) hn hw) X hL hl vb_X2_beaten q1186 (hst.recv hKV) rfl rfl (Nat.le_of_ble_eq_true rfl) dX1_beatenBy_9 ⟨Nat.le_of_ble_eq_true rfl, Nat.le_of_ble_eq_true rfl⟩ (by omega) (by omega) ⟨hst, hoi⟩ (fun r H locs hL hp => ?_)
  obtain ⟨rfl, hE1⟩ := hp
  have ob := ob.ext hE1
  have obs := obs.ext hE1
  have hsl := hsl.ext hE1
  have hst := hst.ext hE1
  have hbg := hbg.ext hE1
  have hsd := hsd.ext hE1
  have hof := hof.ext hE1
  have hbf := hbf.ext hE1
  have hdq := hdq.ext hE1
  have hE := hE.trans hE1
  exact vx_ret (r_iret X hL rfl rfl dX1_beatenBy_12 (by omega) (by omega) (OQ.q (s_one_f hnb) (v_n (jn_bn _ _ _)) hE))
theorem vb_X1_beatenBy : VB yX1_beatenBy cX1_beatenBy 2 (some .int) 1 := ⟨q1625, q1626, q99, q1627, ⟨by decide, by decide, by decide +kernel⟩⟩

set_option maxRecDepth 100000 in
set_option maxHeartbeats 4000000 in
theorem ct_X1_isToldByPairs (l : Launch) (g : GT) (F : Nat → Prop) (S : MS) (n st ln : Nat) (hf hs : Bool) (o : Nat) (i : Int32) (hl0 : l.stackTraces = false) : Ce l g yX1_isToldByPairs cX1_isToldByPairs 2 (some .boolean) 15 2 8 [.ref o, .int i] (SkR g F S n st ln hf hs o) (OQ (s_one S n i (fun i => bI (isTB (S.1 0) n i)))) (OX "java/lang/IndexOutOfBoundsException" "" (s_one S n i (fun i => bI (isTB (S.1 0) n i)))) := by
  refine Ce.of (by decide) (Nat.le_of_ble_eq_true rfl) ?_
  intro p e s m args below meth c X ht hP ls hl
  have hx := X.1
  have hb := X.2.1
  have hKV := X.2.2.2.2.2.2.2.1.1
  have hL : ∀ q ∈ ([] : List Loc), gLo g ≤ q.base := fun _ h => by cases h
  obtain ⟨sta, dq, sl, bf, x, hh, PB, PD, xs, fs, ob, hst, hR, hn, hbf, hPB, hdq, hsl, hf0, hf1, loo⟩ := hP.v
  have hw := hR.w
  obtain ⟨sb, sd, PG, PS, obs, hbg, hsd, hof, hinj⟩ := id hst
  have hl : lv_has ls 2 [(0, .ref o), (1, .int i)] := hl
  have hE : Ext s.heap s.heap := Ext.rfl'
  refine lv_aload_n hx hb dX1_isToldByPairs_0 rfl (lv_at hl 0 rfl) ?_
  refine r_get (C := RX1) (T := TX1) (N := 5) (ci := 1) X in_X1 rfl 0 (Nat.le_of_ble_eq_true rfl) q280 (fun _ h => h) ob rfl dX1_isToldByPairs_1 ?_
  refine lv_aload_n hx hb dX1_isToldByPairs_4 rfl (lv_at hl 0 rfl) ?_
  refine lv_iload_n hx hb dX1_isToldByPairs_5 rfl (lv_at hl 1 rfl) ?_
  refine Ce.callV (ct_X1_at l g (S.1 0) n x o sta dq sl bf hh i hl0 hn) X ht hL hl vb_X1_at q1559 (ob.recv hKV rfl) rfl rfl (Nat.le_of_ble_eq_true rfl) dX1_isToldByPairs_6 ⟨Nat.le_of_ble_eq_true rfl, Nat.le_of_ble_eq_true rfl⟩ (by omega) (by omega) ⟨ob, hst⟩ (fun E1 H1 hx => ⟨Or.inl ⟨hx.1, s_one_t hx.2.1⟩, hE.trans hx.2.2⟩) (fun r H locs hL hp => ?_)
  obtain ⟨hnb, rfl, hE1⟩ := hp
  have ob := ob.ext hE1
  have obs := obs.ext hE1
  have hsl := hsl.ext hE1
  have hst := hst.ext hE1
  have hbg := hbg.ext hE1
  have hsd := hsd.ext hE1
  have hof := hof.ext hE1
  have hbf := hbf.ext hE1
  have hdq := hdq.ext hE1
  have hE := hE.trans hE1
  obtain ⟨hic, hil⟩ := noB_nat hn hnb
  have hoi := hof _ (rng_mem hil)
  obtain ⟨I, hofi⟩ := id hoi
  refine Ct.callV (ct_X2_isTold l g (S.1 0) n x sta (mv (S.1 0) i.toNatClampNeg) (x i.toNatClampNeg) hn hw) X hL hl vb_X2_isTold q1187 (hst.recv hKV) rfl rfl (Nat.le_of_ble_eq_true rfl) dX1_isToldByPairs_9 ⟨Nat.le_of_ble_eq_true rfl, Nat.le_of_ble_eq_true rfl⟩ (by omega) (by omega) ⟨hst, hoi⟩ (fun r H locs hL hp => ?_)
  obtain ⟨rfl, hE1⟩ := hp
  have ob := ob.ext hE1
  have obs := obs.ext hE1
  have hsl := hsl.ext hE1
  have hst := hst.ext hE1
  have hbg := hbg.ext hE1
  have hsd := hsd.ext hE1
  have hof := hof.ext hE1
  have hbf := hbf.ext hE1
  have hdq := hdq.ext hE1
  have hE := hE.trans hE1
  exact vx_ret (r_iret X hL rfl (narrow_bI _) dX1_isToldByPairs_12 (by omega) (by omega) (OQ.q (s_one_f hnb) (v_b (jn_told _ _ _)) hE))
theorem vb_X1_isToldByPairs : VB yX1_isToldByPairs cX1_isToldByPairs 2 (some .boolean) 1 := ⟨q1632, q1633, q99, q1634, ⟨by decide, by decide, by decide +kernel⟩⟩

set_option maxRecDepth 100000 in
set_option maxHeartbeats 4000000 in
theorem ct_X1_setsFor (l : Launch) (g : GT) (F : Nat → Prop) (S : MS) (n st ln : Nat) (hf hs : Bool) (o : Nat) (i : Int32) (hl0 : l.stackTraces = false) : Ce l g yX1_setsFor cX1_setsFor 2 (some .int) 15 11 150 [.ref o, .int i] (SkR g F S n st ln hf hs o) (OQ (s_one S n i (fun i => nI (cnt (fun z => tellB (S.1 0) n (hasB (nI (z + 1) &&& matI (mw (S.1 0)))) i) 15)))) (OX "java/lang/IndexOutOfBoundsException" "" (s_one S n i (fun i => nI (cnt (fun z => tellB (S.1 0) n (hasB (nI (z + 1) &&& matI (mw (S.1 0)))) i) 15)))) := by
  refine Ce.of (by decide) (Nat.le_of_ble_eq_true rfl) ?_
  intro p e s m args below meth c X ht hP ls hl
  have hx := X.1
  have hb := X.2.1
  have hKV := X.2.2.2.2.2.2.2.1.1
  have hL : ∀ q ∈ ([] : List Loc), gLo g ≤ q.base := fun _ h => by cases h
  obtain ⟨sta, dq, sl, bf, x, hh, PB, PD, xs, fs, ob, hst, hR, hn, hbf, hPB, hdq, hsl, hf0, hf1, loo⟩ := hP.v
  have hw := hR.w
  obtain ⟨sb, sd, PG, PS, obs, hbg, hsd, hof, hinj⟩ := id hst
  have hl : lv_has ls 2 [(0, .ref o), (1, .int i)] := hl
  have hE : Ext s.heap s.heap := Ext.rfl'
  refine lv_aload_n hx hb dX1_setsFor_0 rfl (lv_at hl 0 rfl) ?_
  refine r_get (C := RX1) (T := TX1) (N := 5) (ci := 1) X in_X1 rfl 0 (Nat.le_of_ble_eq_true rfl) q280 (fun _ h => h) ob rfl dX1_setsFor_1 ?_
  refine lv_aload_n hx hb dX1_setsFor_4 rfl (lv_at hl 0 rfl) ?_
  refine lv_iload_n hx hb dX1_setsFor_5 rfl (lv_at hl 1 rfl) ?_
  refine Ce.callV (ct_X1_at l g (S.1 0) n x o sta dq sl bf hh i hl0 hn) X ht hL hl vb_X1_at q1559 (ob.recv hKV rfl) rfl rfl (Nat.le_of_ble_eq_true rfl) dX1_setsFor_6 ⟨Nat.le_of_ble_eq_true rfl, Nat.le_of_ble_eq_true rfl⟩ (by omega) (by omega) ⟨ob, hst⟩ (fun E1 H1 hx => ⟨Or.inl ⟨hx.1, s_one_t hx.2.1⟩, hE.trans hx.2.2⟩) (fun r H locs hL hp => ?_)
  obtain ⟨hnb, rfl, hE1⟩ := hp
  have ob := ob.ext hE1
  have obs := obs.ext hE1
  have hsl := hsl.ext hE1
  have hst := hst.ext hE1
  have hbg := hbg.ext hE1
  have hsd := hsd.ext hE1
  have hof := hof.ext hE1
  have hbf := hbf.ext hE1
  have hdq := hdq.ext hE1
  have hE := hE.trans hE1
  obtain ⟨hic, hil⟩ := noB_nat hn hnb
  have hoi := hof _ (rng_mem hil)
  obtain ⟨I, hofi⟩ := id hoi
  refine Ct.callV (ct_X2_setsOf l g (S.1 0) n x sta (mv (S.1 0) i.toNatClampNeg) (x i.toNatClampNeg) hn hw) X hL hl vb_X2_setsOf q1687 (hst.recv hKV) rfl rfl (Nat.le_of_ble_eq_true rfl) dX1_setsFor_9 ⟨Nat.le_of_ble_eq_true rfl, Nat.le_of_ble_eq_true rfl⟩ (by omega) (by omega) ⟨hst, hoi⟩ (fun r H locs hL hp => ?_)
  obtain ⟨rfl, hE1⟩ := hp
  have ob := ob.ext hE1
  have obs := obs.ext hE1
  have hsl := hsl.ext hE1
  have hst := hst.ext hE1
  have hbg := hbg.ext hE1
  have hsd := hsd.ext hE1
  have hof := hof.ext hE1
  have hbf := hbf.ext hE1
  have hdq := hdq.ext hE1
  have hE := hE.trans hE1
  exact vx_ret (r_iret X hL rfl rfl dX1_setsFor_12 (by omega) (by omega) (OQ.q (s_one_f hnb) (v_n (jn_sets _ _ _)) hE))
theorem vb_X1_setsFor : VB yX1_setsFor cX1_setsFor 2 (some .int) 1 := ⟨q1684, q1685, q99, q1686, ⟨by decide, by decide, by decide +kernel⟩⟩

set_option maxRecDepth 100000 in
set_option maxHeartbeats 4000000 in
theorem ct_X1_isToldByWindow (l : Launch) (g : GT) (F : Nat → Prop) (S : MS) (n st ln : Nat) (hf hs : Bool) (o : Nat) (i : Int32) (hl0 : l.stackTraces = false) : Ce l g yX1_isToldByWindow cX1_isToldByWindow 3 (some .boolean) 16 84 4097 [.ref o, .int i] (SkR g F S n st ln hf hs o) (OQ (s_one S n i (fun i => bI (isTB (S.1 0) n i)))) (OX "java/lang/IndexOutOfBoundsException" "" (s_one S n i (fun i => bI (isTB (S.1 0) n i)))) := by
  refine Ce.of (by decide) (Nat.le_of_ble_eq_true rfl) ?_
  intro p e s m args below meth c X ht hP ls hl
  have hx := X.1
  have hb := X.2.1
  have hKV := X.2.2.2.2.2.2.2.1.1
  have hL : ∀ q ∈ ([] : List Loc), gLo g ≤ q.base := fun _ h => by cases h
  obtain ⟨sta, dq, sl, bf, x, hh, PB, PD, xs, fs, ob, hst, hR, hn, hbf, hPB, hdq, hsl, hf0, hf1, loo⟩ := hP.v
  have hw := hR.w
  obtain ⟨sb, sd, PG, PS, obs, hbg, hsd, hof, hinj⟩ := id hst
  have hl : lv_has ls 3 [(0, .ref o), (1, .int i)] := hl
  have hE : Ext s.heap s.heap := Ext.rfl'
  refine lv_aload_n hx hb dX1_isToldByWindow_0 rfl (lv_at hl 0 rfl) ?_
  refine lv_iload_n hx hb dX1_isToldByWindow_1 rfl (lv_at hl 1 rfl) ?_
  refine Ce.callV (ct_X1_at l g (S.1 0) n x o sta dq sl bf hh i hl0 hn) X ht hL hl vb_X1_at q1559 (ob.recv hKV rfl) rfl rfl (Nat.le_of_ble_eq_true rfl) dX1_isToldByWindow_2 ⟨Nat.le_of_ble_eq_true rfl, Nat.le_of_ble_eq_true rfl⟩ (by omega) (by omega) ⟨ob, hst⟩ (fun E1 H1 hx => ⟨Or.inl ⟨hx.1, s_one_t hx.2.1⟩, hE.trans hx.2.2⟩) (fun r H locs hL hp => ?_)
  obtain ⟨hnb, rfl, hE1⟩ := hp
  have ob := ob.ext hE1
  have obs := obs.ext hE1
  have hsl := hsl.ext hE1
  have hst := hst.ext hE1
  have hbg := hbg.ext hE1
  have hsd := hsd.ext hE1
  have hof := hof.ext hE1
  have hbf := hbf.ext hE1
  have hdq := hdq.ext hE1
  have hE := hE.trans hE1
  obtain ⟨hic, hil⟩ := noB_nat hn hnb
  have hoi := hof _ (rng_mem hil)
  obtain ⟨I, hofi⟩ := id hoi
  refine lv_astore_n (lv' := [(2, .ref _), (0, .ref _), (1, .int _)]) hx hb dX1_isToldByWindow_5 rfl hl (by decide) rfl (fun ls hl => ?_)
  refine lv_aload_n hx hb dX1_isToldByWindow_6 rfl (lv_at hl 1 rfl) ?_
  refine lv_aload_n hx hb dX1_isToldByWindow_7 rfl (lv_at hl 1 rfl) ?_
  refine r_get (C := RX1) (T := TX1) (N := 5) (ci := 1) X in_X1 rfl 0 (Nat.le_of_ble_eq_true rfl) q280 (fun _ h => h) ob rfl dX1_isToldByWindow_8 ?_
  refine Ct.callV (ct_X2_window l g (S.1 0) n x sta hn hw) X hL hl vb_X2_window q1157 (hst.recv hKV) rfl rfl (Nat.le_of_ble_eq_true rfl) dX1_isToldByWindow_11 ⟨Nat.le_of_ble_eq_true rfl, Nat.le_of_ble_eq_true rfl⟩ (by omega) (by omega) hst (fun r H locs hL hp => ?_)
  obtain ⟨bw, hbw, rfl, hE1⟩ := hp
  have ob := ob.ext hE1
  have obs := obs.ext hE1
  have hsl := hsl.ext hE1
  have hst := hst.ext hE1
  have hbg := hbg.ext hE1
  have hsd := hsd.ext hE1
  have hof := hof.ext hE1
  have hbf := hbf.ext hE1
  have hdq := hdq.ext hE1
  have hoi := hoi.ext hE1
  have hE := hE.trans hE1
  refine lv_aload_n hx hb dX1_isToldByWindow_14 rfl (lv_at hl 0 rfl) ?_
  refine Ct.callV (ct_X1_isInWindow l g (S.1 0) x (winL (S.1 0) n) o bw (mv (S.1 0) i.toNatClampNeg) (x i.toNatClampNeg) (Nat.le_trans (win_lt (S.1 0) n).2 hn)) X hL hl vb_X1_isInWindow q1192 (ob.recv hKV rfl) rfl rfl (Nat.le_of_ble_eq_true rfl) dX1_isToldByWindow_15 ⟨Nat.le_of_ble_eq_true rfl, Nat.le_of_ble_eq_true rfl⟩ (by omega) (by omega) ⟨⟨_, hbw⟩, hof.sub (fun j hj => rng_mem ((win_lt (S.1 0) n).1 j hj)), hoi⟩ (fun r H locs hL hp => ?_)
  obtain ⟨rfl, hE1⟩ := hp
  have hE := hE.trans hE1
  exact vx_ret (r_iret X hL rfl (narrow_bI _) dX1_isToldByWindow_18 (by omega) (by omega) (OQ.q (s_one_f hnb) (v_b (jn_win hR hil hinj)) hE))
theorem vb_X1_isToldByWindow : VB yX1_isToldByWindow cX1_isToldByWindow 3 (some .boolean) 1 := ⟨q1639, q1640, q99, q1641, ⟨by decide, by decide, by decide +kernel⟩⟩

set_option maxRecDepth 100000 in
set_option maxHeartbeats 4000000 in
theorem ct_X1_betterOn (l : Launch) (g : GT) (F : Nat → Prop) (S : MS) (n st ln : Nat) (hf hs : Bool) (o : Nat) (i j : Int32) (hl0 : l.stackTraces = false) : Ce l g yX1_betterOn cX1_betterOn 3 (some .int) 10 2 12 [.ref o, .int i, .int j] (SkR g F S n st ln hf hs o) (OQ (s_two S n i j (fun i j => nI (betN (mw (S.1 0)) (mv (S.1 0) i) (mv (S.1 0) j) (hasB (matI (mw (S.1 0)))))))) (OX "java/lang/IndexOutOfBoundsException" "" (s_two S n i j (fun i j => nI (betN (mw (S.1 0)) (mv (S.1 0) i) (mv (S.1 0) j) (hasB (matI (mw (S.1 0)))))))) := by
  refine Ce.of (by decide) (Nat.le_of_ble_eq_true rfl) ?_
  intro p e s m args below meth c X ht hP ls hl
  have hx := X.1
  have hb := X.2.1
  have hKV := X.2.2.2.2.2.2.2.1.1
  have hL : ∀ q ∈ ([] : List Loc), gLo g ≤ q.base := fun _ h => by cases h
  obtain ⟨sta, dq, sl, bf, x, hh, PB, PD, xs, fs, ob, hst, hR, hn, hbf, hPB, hdq, hsl, hf0, hf1, loo⟩ := hP.v
  have hw := hR.w
  obtain ⟨sb, sd, PG, PS, obs, hbg, hsd, hof, hinj⟩ := id hst
  have hl : lv_has ls 3 [(0, .ref o), (1, .int i), (2, .int j)] := hl
  have hE : Ext s.heap s.heap := Ext.rfl'
  refine lv_aload_n hx hb dX1_betterOn_0 rfl (lv_at hl 0 rfl) ?_
  refine r_get (C := RX1) (T := TX1) (N := 5) (ci := 1) X in_X1 rfl 0 (Nat.le_of_ble_eq_true rfl) q280 (fun _ h => h) ob rfl dX1_betterOn_1 ?_
  refine r_getN (C := RX2) (T := TX2) (N := 4) (ci := 2) X in_X2 rfl 1 (Nat.le_of_ble_eq_true rfl) q213 (fun _ h => h) obs rfl dX1_betterOn_4 ?_
  refine lv_aload_n hx hb dX1_betterOn_7 rfl (lv_at hl 0 rfl) ?_
  refine lv_iload_n hx hb dX1_betterOn_8 rfl (lv_at hl 1 rfl) ?_
  refine Ce.callV (ct_X1_at l g (S.1 0) n x o sta dq sl bf hh i hl0 hn) X ht hL hl vb_X1_at q1559 (ob.recv hKV rfl) rfl rfl (Nat.le_of_ble_eq_true rfl) dX1_betterOn_9 ⟨Nat.le_of_ble_eq_true rfl, Nat.le_of_ble_eq_true rfl⟩ (by omega) (by omega) ⟨ob, hst⟩ (fun E1 H1 hx => ⟨Or.inl ⟨hx.1, s_two_t (by rw [hx.2.1]; rfl)⟩, hE.trans hx.2.2⟩) (fun r H locs hL hp => ?_)
  obtain ⟨hnb1, rfl, hE1⟩ := hp
  have ob := ob.ext hE1
  have obs := obs.ext hE1
  have hsl := hsl.ext hE1
  have hst := hst.ext hE1
  have hbg := hbg.ext hE1
  have hsd := hsd.ext hE1
  have hof := hof.ext hE1
  have hbf := hbf.ext hE1
  have hdq := hdq.ext hE1
  have hE := hE.trans hE1
  obtain ⟨hic1, hil1⟩ := noB_nat hn hnb1
  have hoi1 := hof _ (rng_mem hil1)
  obtain ⟨I1, hofi1⟩ := id hoi1
  refine lv_aload_n hx hb dX1_betterOn_12 rfl (lv_at hl 0 rfl) ?_
  refine lv_iload_n hx hb dX1_betterOn_13 rfl (lv_at hl 2 rfl) ?_
  refine Ce.callV (ct_X1_at l g (S.1 0) n x o sta dq sl bf hh j hl0 hn) X ht hL hl vb_X1_at q1559 (ob.recv hKV rfl) rfl rfl (Nat.le_of_ble_eq_true rfl) dX1_betterOn_14 ⟨Nat.le_of_ble_eq_true rfl, Nat.le_of_ble_eq_true rfl⟩ (by omega) (by omega) ⟨ob, hst⟩ (fun E1 H1 hx => ⟨Or.inl ⟨hx.1, s_two_t (by rw [hx.2.1]; simp)⟩, hE.trans hx.2.2⟩) (fun r H locs hL hp => ?_)
  obtain ⟨hnb2, rfl, hE1⟩ := hp
  have ob := ob.ext hE1
  have obs := obs.ext hE1
  have hsl := hsl.ext hE1
  have hst := hst.ext hE1
  have hbg := hbg.ext hE1
  have hsd := hsd.ext hE1
  have hof := hof.ext hE1
  have hbf := hbf.ext hE1
  have hdq := hdq.ext hE1
  have hofi1 := hofi1.ext hE1
  have hoi1 := hoi1.ext hE1
  have hE := hE.trans hE1
  obtain ⟨hic2, hil2⟩ := noB_nat hn hnb2
  have hoi2 := hof _ (rng_mem hil2)
  obtain ⟨I2, hofi2⟩ := id hoi2
  refine lv_bipush (v := nI 15) hx hb dX1_betterOn_17 (by decide) ?_
  refine Cp.callV (v := .int (nI (betN (mw (S.1 0)) (mv (S.1 0) i.toNatClampNeg) (mv (S.1 0) j.toNatClampNeg) (swB (mw (S.1 0)) (nI 15))))) (ct_X4_better l g PS (S.1 0) sd I1 (mv (S.1 0) i.toNatClampNeg) (x i.toNatClampNeg) I2 (mv (S.1 0) j.toNatClampNeg) (x j.toNatClampNeg) (nI 15) hw) X hL hl vb_X4_better q1613 (hsd.recv hKV) rfl rfl (Nat.le_of_ble_eq_true rfl) dX1_betterOn_19 ⟨Nat.le_of_ble_eq_true rfl, Nat.le_of_ble_eq_true rfl⟩ (by omega) (by omega) ⟨hsd, hofi1, hofi2⟩ (fun locs hL => ?_)
  exact vx_ret (r_iret X hL rfl rfl dX1_betterOn_22 (by omega) (by omega) (OQ.q (s_two_f hnb1 hnb2) (v_n (betN_congr (fun q hq => swB_15 _ hq))) hE))
theorem vb_X1_betterOn : VB yX1_betterOn cX1_betterOn 3 (some .int) 2 := ⟨q1610, q1611, q99, q1612, ⟨by decide, by decide, by decide +kernel⟩⟩

set_option maxRecDepth 100000 in
set_option maxHeartbeats 4000000 in
theorem ct_X1_beats (l : Launch) (g : GT) (F : Nat → Prop) (S : MS) (n st ln : Nat) (hf hs : Bool) (o : Nat) (i j : Int32) (hl0 : l.stackTraces = false) : Ce l g yX1_beats cX1_beats 6 (some .boolean) 10 2 12 [.ref o, .int i, .int j] (SkR g F S n st ln hf hs o) (OQ (s_two S n i j (fun i j => bI (beatB (S.1 0) i j)))) (OX "java/lang/IndexOutOfBoundsException" "" (s_two S n i j (fun i j => bI (beatB (S.1 0) i j)))) := by
  refine Ce.of (by decide) (Nat.le_of_ble_eq_true rfl) ?_
  intro p e s m args below meth c X ht hP ls hl
  have hx := X.1
  have hb := X.2.1
  have hKV := X.2.2.2.2.2.2.2.1.1
  have hL : ∀ q ∈ ([] : List Loc), gLo g ≤ q.base := fun _ h => by cases h
  obtain ⟨sta, dq, sl, bf, x, hh, PB, PD, xs, fs, ob, hst, hR, hn, hbf, hPB, hdq, hsl, hf0, hf1, loo⟩ := hP.v
  have hw := hR.w
  obtain ⟨sb, sd, PG, PS, obs, hbg, hsd, hof, hinj⟩ := id hst
  have hl : lv_has ls 6 [(0, .ref o), (1, .int i), (2, .int j)] := hl
  have hE : Ext s.heap s.heap := Ext.rfl'
  refine lv_aload_n hx hb dX1_beats_0 rfl (lv_at hl 0 rfl) ?_
  refine lv_iload_n hx hb dX1_beats_1 rfl (lv_at hl 1 rfl) ?_
  refine Ce.callV (ct_X1_at l g (S.1 0) n x o sta dq sl bf hh i hl0 hn) X ht hL hl vb_X1_at q1559 (ob.recv hKV rfl) rfl rfl (Nat.le_of_ble_eq_true rfl) dX1_beats_2 ⟨Nat.le_of_ble_eq_true rfl, Nat.le_of_ble_eq_true rfl⟩ (by omega) (by omega) ⟨ob, hst⟩ (fun E1 H1 hx => ⟨Or.inl ⟨hx.1, s_two_t (by rw [hx.2.1]; rfl)⟩, hE.trans hx.2.2⟩) (fun r H locs hL hp => ?_)
  obtain ⟨hnb1, rfl, hE1⟩ := hp
  have ob := ob.ext hE1
  have obs := obs.ext hE1
  have hsl := hsl.ext hE1
  have hst := hst.ext hE1
  have hbg := hbg.ext hE1
  have hsd := hsd.ext hE1
  have hof := hof.ext hE1
  have hbf := hbf.ext hE1
  have hdq := hdq.ext hE1
  have hE := hE.trans hE1
  obtain ⟨hic1, hil1⟩ := noB_nat hn hnb1
  have hoi1 := hof _ (rng_mem hil1)
  obtain ⟨I1, hofi1⟩ := id hoi1
  refine lv_astore_n (lv' := [(3, .ref _), (0, .ref _), (1, .int _), (2, .int _)]) hx hb dX1_beats_5 rfl hl (by decide) rfl (fun ls hl => ?_)
  refine lv_aload_n hx hb dX1_beats_6 rfl (lv_at hl 1 rfl) ?_
  refine lv_iload_n hx hb dX1_beats_7 rfl (lv_at hl 3 rfl) ?_
  refine Ce.callV (ct_X1_at l g (S.1 0) n x o sta dq sl bf hh j hl0 hn) X ht hL hl vb_X1_at q1559 (ob.recv hKV rfl) rfl rfl (Nat.le_of_ble_eq_true rfl) dX1_beats_8 ⟨Nat.le_of_ble_eq_true rfl, Nat.le_of_ble_eq_true rfl⟩ (by omega) (by omega) ⟨ob, hst⟩ (fun E1 H1 hx => ⟨Or.inl ⟨hx.1, s_two_t (by rw [hx.2.1]; simp)⟩, hE.trans hx.2.2⟩) (fun r H locs hL hp => ?_)
  obtain ⟨hnb2, rfl, hE1⟩ := hp
  have ob := ob.ext hE1
  have obs := obs.ext hE1
  have hsl := hsl.ext hE1
  have hst := hst.ext hE1
  have hbg := hbg.ext hE1
  have hsd := hsd.ext hE1
  have hof := hof.ext hE1
  have hbf := hbf.ext hE1
  have hdq := hdq.ext hE1
  have hofi1 := hofi1.ext hE1
  have hoi1 := hoi1.ext hE1
  have hE := hE.trans hE1
  obtain ⟨hic2, hil2⟩ := noB_nat hn hnb2
  have hoi2 := hof _ (rng_mem hil2)
  obtain ⟨I2, hofi2⟩ := id hoi2
  refine lv_astore (lv' := [(4, .ref _), (3, .ref _), (0, .ref _), (1, .int _), (2, .int _)]) hx hb dX1_beats_11 hl (by decide) rfl (fun ls hl => ?_)
  refine lv_aload_n hx hb dX1_beats_13 rfl (lv_at hl 2 rfl) ?_
  refine r_get (C := RX1) (T := TX1) (N := 5) (ci := 1) X in_X1 rfl 0 (Nat.le_of_ble_eq_true rfl) q280 (fun _ h => h) ob rfl dX1_beats_14 ?_
  refine r_getN (C := RX2) (T := TX2) (N := 4) (ci := 2) X in_X2 rfl 1 (Nat.le_of_ble_eq_true rfl) q213 (fun _ h => h) obs rfl dX1_beats_17 ?_
  refine lv_aload_n hx hb dX1_beats_20 rfl (lv_at hl 1 rfl) ?_
  refine Cp.callV (v := .int (bI (couB (mle (S.1 0)) (mgr (S.1 0)) (mv (S.1 0) i.toNatClampNeg)))) (ct_X4_counts l g PS (S.1 0) sd I1 (mv (S.1 0) i.toNatClampNeg) (x i.toNatClampNeg) ) X hL hl vb_X4_counts q1177 (hsd.recv hKV) rfl rfl (Nat.le_of_ble_eq_true rfl) dX1_beats_21 ⟨Nat.le_of_ble_eq_true rfl, Nat.le_of_ble_eq_true rfl⟩ (by omega) (by omega) ⟨hsd, hofi1⟩ (fun locs hL => ?_)
  refine b_ifeq (tgt := 46) X dX1_beats_24 (by decide) (fun c_24 => ?_) (fun c_24 => ?_)
  ·
    refine lv_iconst (v := nI 0) hx hb dX1_beats_46 (by decide) ?_
    refine lv_istore (lv' := [(5, .int _), (4, .ref _), (3, .ref _), (0, .ref _), (1, .int _), (2, .int _)]) hx hb dX1_beats_47 hl (by decide) rfl (fun ls hl => ?_)
    refine lv_iload hx hb dX1_beats_49 (lv_at hl 0 rfl) ?_
    refine n_ifeq (tgt := 76) X dX1_beats_51 (by decide) (by omega) (fun c_51 => ?_) (fun c_51 => ?_)
    ·
      refine lv_iconst (v := nI 0) hx hb dX1_beats_76 (by decide) ?_
      exact vx_ret (r_iret X hL rfl rfl dX1_beats_77 (by omega) (by omega) (OQ.q (s_two_f hnb1 hnb2) (v_f (by rw [beat_abv, show cB (S.1 0) i.toNatClampNeg = false from c_24]; rfl)) hE))
    ·
      exact absurd c_51 (by decide)
  ·
    refine lv_aload_n hx hb dX1_beats_27 rfl (lv_at hl 2 rfl) ?_
    refine r_get (C := RX1) (T := TX1) (N := 5) (ci := 1) X in_X1 rfl 0 (Nat.le_of_ble_eq_true rfl) q280 (fun _ h => h) ob rfl dX1_beats_28 ?_
    refine r_getN (C := RX2) (T := TX2) (N := 4) (ci := 2) X in_X2 rfl 1 (Nat.le_of_ble_eq_true rfl) q213 (fun _ h => h) obs rfl dX1_beats_31 ?_
    refine lv_aload hx hb dX1_beats_34 (lv_at hl 0 rfl) ?_
    refine Cp.callV (v := .int (bI (couB (mle (S.1 0)) (mgr (S.1 0)) (mv (S.1 0) j.toNatClampNeg)))) (ct_X4_counts l g PS (S.1 0) sd I2 (mv (S.1 0) j.toNatClampNeg) (x j.toNatClampNeg) ) X hL hl vb_X4_counts q1177 (hsd.recv hKV) rfl rfl (Nat.le_of_ble_eq_true rfl) dX1_beats_36 ⟨Nat.le_of_ble_eq_true rfl, Nat.le_of_ble_eq_true rfl⟩ (by omega) (by omega) ⟨hsd, hofi2⟩ (fun locs hL => ?_)
    refine b_ifeq (tgt := 46) X dX1_beats_39 (by decide) (fun c_39 => ?_) (fun c_39 => ?_)
    ·
      refine lv_iconst (v := nI 0) hx hb dX1_beats_46 (by decide) ?_
      refine lv_istore (lv' := [(5, .int _), (4, .ref _), (3, .ref _), (0, .ref _), (1, .int _), (2, .int _)]) hx hb dX1_beats_47 hl (by decide) rfl (fun ls hl => ?_)
      refine lv_iload hx hb dX1_beats_49 (lv_at hl 0 rfl) ?_
      refine n_ifeq (tgt := 76) X dX1_beats_51 (by decide) (by omega) (fun c_51 => ?_) (fun c_51 => ?_)
      ·
        refine lv_iconst (v := nI 0) hx hb dX1_beats_76 (by decide) ?_
        exact vx_ret (r_iret X hL rfl rfl dX1_beats_77 (by omega) (by omega) (OQ.q (s_two_f hnb1 hnb2) (v_f (by rw [beat_abv, show cB (S.1 0) j.toNatClampNeg = false from c_39]; simp)) hE))
      ·
        exact absurd c_51 (by decide)
    ·
      refine lv_iconst (v := nI 1) hx hb dX1_beats_42 (by decide) ?_
      refine lv_goto (tgt := 47) hx hb dX1_beats_43 (by decide) ?_
      refine lv_istore (lv' := [(5, .int _), (4, .ref _), (3, .ref _), (0, .ref _), (1, .int _), (2, .int _)]) hx hb dX1_beats_47 hl (by decide) rfl (fun ls hl => ?_)
      refine lv_iload hx hb dX1_beats_49 (lv_at hl 0 rfl) ?_
      refine n_ifeq (tgt := 76) X dX1_beats_51 (by decide) (by omega) (fun c_51 => ?_) (fun c_51 => ?_)
      ·
        exact absurd c_51 (by decide)
      ·
        refine lv_aload_n hx hb dX1_beats_54 rfl (lv_at hl 3 rfl) ?_
        refine r_get (C := RX1) (T := TX1) (N := 5) (ci := 1) X in_X1 rfl 0 (Nat.le_of_ble_eq_true rfl) q280 (fun _ h => h) ob rfl dX1_beats_55 ?_
        refine r_getN (C := RX2) (T := TX2) (N := 4) (ci := 2) X in_X2 rfl 1 (Nat.le_of_ble_eq_true rfl) q213 (fun _ h => h) obs rfl dX1_beats_58 ?_
        refine lv_aload_n hx hb dX1_beats_61 rfl (lv_at hl 2 rfl) ?_
        refine lv_aload hx hb dX1_beats_62 (lv_at hl 1 rfl) ?_
        refine lv_bipush (v := nI 15) hx hb dX1_beats_64 (by decide) ?_
        refine Cp.callV (v := .int (bI (beyB (mw (S.1 0)) (mv (S.1 0) i.toNatClampNeg) (mv (S.1 0) j.toNatClampNeg) (swB (mw (S.1 0)) (nI 15))))) (ct_X4_isAbove l g PS (S.1 0) sd I1 (mv (S.1 0) i.toNatClampNeg) (x i.toNatClampNeg) I2 (mv (S.1 0) j.toNatClampNeg) (x j.toNatClampNeg) (nI 15) hw) X hL hl vb_X4_isAbove q1605 (hsd.recv hKV) rfl rfl (Nat.le_of_ble_eq_true rfl) dX1_beats_66 ⟨Nat.le_of_ble_eq_true rfl, Nat.le_of_ble_eq_true rfl⟩ (by omega) (by omega) ⟨hsd, hofi1, hofi2⟩ (fun locs hL => ?_)
        refine b_ifeq (tgt := 76) X dX1_beats_69 (by decide) (fun c_69 => ?_) (fun c_69 => ?_)
        ·
          refine lv_iconst (v := nI 0) hx hb dX1_beats_76 (by decide) ?_
          exact vx_ret (r_iret X hL rfl rfl dX1_beats_77 (by omega) (by omega) (OQ.q (s_two_f hnb1 hnb2) (v_f (by rw [beat_abv, show abv (S.1 0) (nI 15) i.toNatClampNeg j.toNatClampNeg = false from c_69]; simp)) hE))
        ·
          refine lv_iconst (v := nI 1) hx hb dX1_beats_72 (by decide) ?_
          refine lv_goto (tgt := 77) hx hb dX1_beats_73 (by decide) ?_
          exact vx_ret (r_iret X hL rfl rfl dX1_beats_77 (by omega) (by omega) (OQ.q (s_two_f hnb1 hnb2) (v_t (by rw [beat_abv, show cB (S.1 0) i.toNatClampNeg = true from c_24, show cB (S.1 0) j.toNatClampNeg = true from c_39, show abv (S.1 0) (nI 15) i.toNatClampNeg j.toNatClampNeg = true from c_69]; rfl)) hE))
theorem vb_X1_beats : VB yX1_beats cX1_beats 6 (some .boolean) 2 := ⟨q1602, q1603, q99, q1604, ⟨by decide, by decide, by decide +kernel⟩⟩

set_option maxRecDepth 100000 in
set_option maxHeartbeats 4000000 in
theorem ct_X1_wishOf (l : Launch) (g : GT) (F : Nat → Prop) (S : MS) (n st ln : Nat) (hf hs : Bool) (o : Nat) (q : Int32) (hl0 : l.stackTraces = false) : Ce l g yX1_wishOf cX1_wishOf 2 (some .int) 8 1 6 [.ref o, .int q] (SkR g F S n st ln hf hs o) (OQ (s_of S 161 q)) (OX "java/lang/IndexOutOfBoundsException" "" (s_of S 161 q)) := by
  refine Ce.of (by decide) (Nat.le_of_ble_eq_true rfl) ?_
  intro p e s m args below meth c X ht hP ls hl
  have hx := X.1
  have hb := X.2.1
  have hKV := X.2.2.2.2.2.2.2.1.1
  have hL : ∀ q ∈ ([] : List Loc), gLo g ≤ q.base := fun _ h => by cases h
  obtain ⟨sta, dq, sl, bf, x, hh, PB, PD, xs, fs, ob, hst, hR, hn, hbf, hPB, hdq, hsl, hf0, hf1, loo⟩ := hP.v
  have hw := hR.w
  obtain ⟨sb, sd, PG, PS, obs, hbg, hsd, hof, hinj⟩ := id hst
  have hl : lv_has ls 2 [(0, .ref o), (1, .int q)] := hl
  have hE : Ext s.heap s.heap := Ext.rfl'
  refine lv_iload_n hx hb dX1_wishOf_0 rfl (lv_at hl 1 rfl) ?_
  refine Cp.callS (v := .int (bI (inB q (nI 0) (nI 3)))) (ct_X1_isSide l g q ) X hL hl sb_X1_isSide q1407 rfl rfl (Nat.le_of_ble_eq_true rfl) dX1_wishOf_1 ⟨Nat.le_of_ble_eq_true rfl, Nat.le_of_ble_eq_true rfl⟩ (by omega) (by omega) trivial (fun locs hL => ?_)
  refine Ce.callS (ct_X1_requireIndex l g hl0 (inB q (nI 0) (nI 3)) ) X ht hL hl sb_X1_requireIndex q1380 rfl rfl (Nat.le_of_ble_eq_true rfl) dX1_wishOf_4 ⟨Nat.le_of_ble_eq_true rfl, Nat.le_of_ble_eq_true rfl⟩ (by omega) (by omega) trivial (fun E1 H1 hx => ⟨Or.inl ⟨hx.1, s_of_t (by unfold noS; rw [hx.2.1]; rfl)⟩, hE.trans hx.2.2⟩) (fun r H locs hL hp => ?_)
  obtain ⟨rfl, hHH, hc⟩ := hp
  subst hHH
  have hnq : noS q = false := by unfold noS; rw [hc]; rfl
  obtain ⟨hqc, hql⟩ := noS_nat hnq
  obtain ⟨a1, a2, a3, a4, o0, w1, w2, w3, w4⟩ := rds hsd
  refine lv_aload_n hx hb dX1_wishOf_7 rfl (lv_at hl 0 rfl) ?_
  refine r_get (C := RX1) (T := TX1) (N := 5) (ci := 1) X in_X1 rfl 0 (Nat.le_of_ble_eq_true rfl) q280 (fun _ h => h) ob rfl dX1_wishOf_8 ?_
  refine r_getN (C := RX2) (T := TX2) (N := 4) (ci := 2) X in_X2 rfl 1 (Nat.le_of_ble_eq_true rfl) q213 (fun _ h => h) obs rfl dX1_wishOf_11 ?_
  refine r_getN (C := RX4) (T := TX4) (N := 4) (ci := 4) X in_X4 rfl 0 (Nat.le_of_ble_eq_true rfl) q191 (fun _ h => h) o0 rfl dX1_wishOf_14 ?_
  refine lv_iload_n hx hb dX1_wishOf_17 rfl (lv_at hl 1 rfl) ?_
  refine W.stk (w := (nI q.toNatClampNeg)) hqc ?_
  refine r_ild X w1 q.toNatClampNeg (nI_cl (by omega) rfl) (nI_nn (by omega) rfl) (by omega) dX1_wishOf_18 ?_
  exact vx_ret (r_iret X hL rfl rfl dX1_wishOf_19 (by omega) (by omega) (OQ.q (s_of_f hnq) rfl hE))
theorem vb_X1_wishOf : VB yX1_wishOf cX1_wishOf 2 (some .int) 1 := ⟨q1567, q1568, q99, q1569, ⟨by decide, by decide, by decide +kernel⟩⟩

set_option maxRecDepth 100000 in
set_option maxHeartbeats 4000000 in
theorem ct_X1_leastOf (l : Launch) (g : GT) (F : Nat → Prop) (S : MS) (n st ln : Nat) (hf hs : Bool) (o : Nat) (q : Int32) (hl0 : l.stackTraces = false) : Ce l g yX1_leastOf cX1_leastOf 2 (some .int) 8 1 6 [.ref o, .int q] (SkR g F S n st ln hf hs o) (OQ (s_of S 165 q)) (OX "java/lang/IndexOutOfBoundsException" "" (s_of S 165 q)) := by
  refine Ce.of (by decide) (Nat.le_of_ble_eq_true rfl) ?_
  intro p e s m args below meth c X ht hP ls hl
  have hx := X.1
  have hb := X.2.1
  have hKV := X.2.2.2.2.2.2.2.1.1
  have hL : ∀ q ∈ ([] : List Loc), gLo g ≤ q.base := fun _ h => by cases h
  obtain ⟨sta, dq, sl, bf, x, hh, PB, PD, xs, fs, ob, hst, hR, hn, hbf, hPB, hdq, hsl, hf0, hf1, loo⟩ := hP.v
  have hw := hR.w
  obtain ⟨sb, sd, PG, PS, obs, hbg, hsd, hof, hinj⟩ := id hst
  have hl : lv_has ls 2 [(0, .ref o), (1, .int q)] := hl
  have hE : Ext s.heap s.heap := Ext.rfl'
  refine lv_iload_n hx hb dX1_leastOf_0 rfl (lv_at hl 1 rfl) ?_
  refine Cp.callS (v := .int (bI (inB q (nI 0) (nI 3)))) (ct_X1_isSide l g q ) X hL hl sb_X1_isSide q1407 rfl rfl (Nat.le_of_ble_eq_true rfl) dX1_leastOf_1 ⟨Nat.le_of_ble_eq_true rfl, Nat.le_of_ble_eq_true rfl⟩ (by omega) (by omega) trivial (fun locs hL => ?_)
  refine Ce.callS (ct_X1_requireIndex l g hl0 (inB q (nI 0) (nI 3)) ) X ht hL hl sb_X1_requireIndex q1380 rfl rfl (Nat.le_of_ble_eq_true rfl) dX1_leastOf_4 ⟨Nat.le_of_ble_eq_true rfl, Nat.le_of_ble_eq_true rfl⟩ (by omega) (by omega) trivial (fun E1 H1 hx => ⟨Or.inl ⟨hx.1, s_of_t (by unfold noS; rw [hx.2.1]; rfl)⟩, hE.trans hx.2.2⟩) (fun r H locs hL hp => ?_)
  obtain ⟨rfl, hHH, hc⟩ := hp
  subst hHH
  have hnq : noS q = false := by unfold noS; rw [hc]; rfl
  obtain ⟨hqc, hql⟩ := noS_nat hnq
  obtain ⟨a1, a2, a3, a4, o0, w1, w2, w3, w4⟩ := rds hsd
  refine lv_aload_n hx hb dX1_leastOf_7 rfl (lv_at hl 0 rfl) ?_
  refine r_get (C := RX1) (T := TX1) (N := 5) (ci := 1) X in_X1 rfl 0 (Nat.le_of_ble_eq_true rfl) q280 (fun _ h => h) ob rfl dX1_leastOf_8 ?_
  refine r_getN (C := RX2) (T := TX2) (N := 4) (ci := 2) X in_X2 rfl 1 (Nat.le_of_ble_eq_true rfl) q213 (fun _ h => h) obs rfl dX1_leastOf_11 ?_
  refine r_getN (C := RX4) (T := TX4) (N := 4) (ci := 4) X in_X4 rfl 1 (Nat.le_of_ble_eq_true rfl) q194 (fun _ h => h) o0 rfl dX1_leastOf_14 ?_
  refine lv_iload_n hx hb dX1_leastOf_17 rfl (lv_at hl 1 rfl) ?_
  refine W.stk (w := (nI q.toNatClampNeg)) hqc ?_
  refine r_ild X w2 q.toNatClampNeg (nI_cl (by omega) rfl) (nI_nn (by omega) rfl) (by omega) dX1_leastOf_18 ?_
  exact vx_ret (r_iret X hL rfl rfl dX1_leastOf_19 (by omega) (by omega) (OQ.q (s_of_f hnq) rfl hE))
theorem vb_X1_leastOf : VB yX1_leastOf cX1_leastOf 2 (some .int) 1 := ⟨q1574, q1575, q99, q1576, ⟨by decide, by decide, by decide +kernel⟩⟩

set_option maxRecDepth 100000 in
set_option maxHeartbeats 4000000 in
theorem ct_X1_mostOf (l : Launch) (g : GT) (F : Nat → Prop) (S : MS) (n st ln : Nat) (hf hs : Bool) (o : Nat) (q : Int32) (hl0 : l.stackTraces = false) : Ce l g yX1_mostOf cX1_mostOf 2 (some .int) 8 1 6 [.ref o, .int q] (SkR g F S n st ln hf hs o) (OQ (s_of S 169 q)) (OX "java/lang/IndexOutOfBoundsException" "" (s_of S 169 q)) := by
  refine Ce.of (by decide) (Nat.le_of_ble_eq_true rfl) ?_
  intro p e s m args below meth c X ht hP ls hl
  have hx := X.1
  have hb := X.2.1
  have hKV := X.2.2.2.2.2.2.2.1.1
  have hL : ∀ q ∈ ([] : List Loc), gLo g ≤ q.base := fun _ h => by cases h
  obtain ⟨sta, dq, sl, bf, x, hh, PB, PD, xs, fs, ob, hst, hR, hn, hbf, hPB, hdq, hsl, hf0, hf1, loo⟩ := hP.v
  have hw := hR.w
  obtain ⟨sb, sd, PG, PS, obs, hbg, hsd, hof, hinj⟩ := id hst
  have hl : lv_has ls 2 [(0, .ref o), (1, .int q)] := hl
  have hE : Ext s.heap s.heap := Ext.rfl'
  refine lv_iload_n hx hb dX1_mostOf_0 rfl (lv_at hl 1 rfl) ?_
  refine Cp.callS (v := .int (bI (inB q (nI 0) (nI 3)))) (ct_X1_isSide l g q ) X hL hl sb_X1_isSide q1407 rfl rfl (Nat.le_of_ble_eq_true rfl) dX1_mostOf_1 ⟨Nat.le_of_ble_eq_true rfl, Nat.le_of_ble_eq_true rfl⟩ (by omega) (by omega) trivial (fun locs hL => ?_)
  refine Ce.callS (ct_X1_requireIndex l g hl0 (inB q (nI 0) (nI 3)) ) X ht hL hl sb_X1_requireIndex q1380 rfl rfl (Nat.le_of_ble_eq_true rfl) dX1_mostOf_4 ⟨Nat.le_of_ble_eq_true rfl, Nat.le_of_ble_eq_true rfl⟩ (by omega) (by omega) trivial (fun E1 H1 hx => ⟨Or.inl ⟨hx.1, s_of_t (by unfold noS; rw [hx.2.1]; rfl)⟩, hE.trans hx.2.2⟩) (fun r H locs hL hp => ?_)
  obtain ⟨rfl, hHH, hc⟩ := hp
  subst hHH
  have hnq : noS q = false := by unfold noS; rw [hc]; rfl
  obtain ⟨hqc, hql⟩ := noS_nat hnq
  obtain ⟨a1, a2, a3, a4, o0, w1, w2, w3, w4⟩ := rds hsd
  refine lv_aload_n hx hb dX1_mostOf_7 rfl (lv_at hl 0 rfl) ?_
  refine r_get (C := RX1) (T := TX1) (N := 5) (ci := 1) X in_X1 rfl 0 (Nat.le_of_ble_eq_true rfl) q280 (fun _ h => h) ob rfl dX1_mostOf_8 ?_
  refine r_getN (C := RX2) (T := TX2) (N := 4) (ci := 2) X in_X2 rfl 1 (Nat.le_of_ble_eq_true rfl) q213 (fun _ h => h) obs rfl dX1_mostOf_11 ?_
  refine r_getN (C := RX4) (T := TX4) (N := 4) (ci := 4) X in_X4 rfl 2 (Nat.le_of_ble_eq_true rfl) q197 (fun _ h => h) o0 rfl dX1_mostOf_14 ?_
  refine lv_iload_n hx hb dX1_mostOf_17 rfl (lv_at hl 1 rfl) ?_
  refine W.stk (w := (nI q.toNatClampNeg)) hqc ?_
  refine r_ild X w3 q.toNatClampNeg (nI_cl (by omega) rfl) (nI_nn (by omega) rfl) (by omega) dX1_mostOf_18 ?_
  exact vx_ret (r_iret X hL rfl rfl dX1_mostOf_19 (by omega) (by omega) (OQ.q (s_of_f hnq) rfl hE))
theorem vb_X1_mostOf : VB yX1_mostOf cX1_mostOf 2 (some .int) 1 := ⟨q1581, q1582, q99, q1583, ⟨by decide, by decide, by decide +kernel⟩⟩

set_option maxRecDepth 100000 in
set_option maxHeartbeats 4000000 in
theorem ct_X1_weightOf (l : Launch) (g : GT) (F : Nat → Prop) (S : MS) (n st ln : Nat) (hf hs : Bool) (o : Nat) (q : Int32) (hl0 : l.stackTraces = false) : Ce l g yX1_weightOf cX1_weightOf 2 (some .int) 8 1 6 [.ref o, .int q] (SkR g F S n st ln hf hs o) (OQ (s_of S 173 q)) (OX "java/lang/IndexOutOfBoundsException" "" (s_of S 173 q)) := by
  refine Ce.of (by decide) (Nat.le_of_ble_eq_true rfl) ?_
  intro p e s m args below meth c X ht hP ls hl
  have hx := X.1
  have hb := X.2.1
  have hKV := X.2.2.2.2.2.2.2.1.1
  have hL : ∀ q ∈ ([] : List Loc), gLo g ≤ q.base := fun _ h => by cases h
  obtain ⟨sta, dq, sl, bf, x, hh, PB, PD, xs, fs, ob, hst, hR, hn, hbf, hPB, hdq, hsl, hf0, hf1, loo⟩ := hP.v
  have hw := hR.w
  obtain ⟨sb, sd, PG, PS, obs, hbg, hsd, hof, hinj⟩ := id hst
  have hl : lv_has ls 2 [(0, .ref o), (1, .int q)] := hl
  have hE : Ext s.heap s.heap := Ext.rfl'
  refine lv_iload_n hx hb dX1_weightOf_0 rfl (lv_at hl 1 rfl) ?_
  refine Cp.callS (v := .int (bI (inB q (nI 0) (nI 3)))) (ct_X1_isSide l g q ) X hL hl sb_X1_isSide q1407 rfl rfl (Nat.le_of_ble_eq_true rfl) dX1_weightOf_1 ⟨Nat.le_of_ble_eq_true rfl, Nat.le_of_ble_eq_true rfl⟩ (by omega) (by omega) trivial (fun locs hL => ?_)
  refine Ce.callS (ct_X1_requireIndex l g hl0 (inB q (nI 0) (nI 3)) ) X ht hL hl sb_X1_requireIndex q1380 rfl rfl (Nat.le_of_ble_eq_true rfl) dX1_weightOf_4 ⟨Nat.le_of_ble_eq_true rfl, Nat.le_of_ble_eq_true rfl⟩ (by omega) (by omega) trivial (fun E1 H1 hx => ⟨Or.inl ⟨hx.1, s_of_t (by unfold noS; rw [hx.2.1]; rfl)⟩, hE.trans hx.2.2⟩) (fun r H locs hL hp => ?_)
  obtain ⟨rfl, hHH, hc⟩ := hp
  subst hHH
  have hnq : noS q = false := by unfold noS; rw [hc]; rfl
  obtain ⟨hqc, hql⟩ := noS_nat hnq
  obtain ⟨a1, a2, a3, a4, o0, w1, w2, w3, w4⟩ := rds hsd
  refine lv_aload_n hx hb dX1_weightOf_7 rfl (lv_at hl 0 rfl) ?_
  refine r_get (C := RX1) (T := TX1) (N := 5) (ci := 1) X in_X1 rfl 0 (Nat.le_of_ble_eq_true rfl) q280 (fun _ h => h) ob rfl dX1_weightOf_8 ?_
  refine r_getN (C := RX2) (T := TX2) (N := 4) (ci := 2) X in_X2 rfl 1 (Nat.le_of_ble_eq_true rfl) q213 (fun _ h => h) obs rfl dX1_weightOf_11 ?_
  refine r_getN (C := RX4) (T := TX4) (N := 4) (ci := 4) X in_X4 rfl 3 (Nat.le_of_ble_eq_true rfl) q199 (fun _ h => h) o0 rfl dX1_weightOf_14 ?_
  refine lv_iload_n hx hb dX1_weightOf_17 rfl (lv_at hl 1 rfl) ?_
  refine W.stk (w := (nI q.toNatClampNeg)) hqc ?_
  refine r_ild X w4 q.toNatClampNeg (nI_cl (by omega) rfl) (nI_nn (by omega) rfl) (by omega) dX1_weightOf_18 ?_
  exact vx_ret (r_iret X hL rfl rfl dX1_weightOf_19 (by omega) (by omega) (OQ.q (s_of_f hnq) rfl hE))
theorem vb_X1_weightOf : VB yX1_weightOf cX1_weightOf 2 (some .int) 1 := ⟨q1588, q1589, q99, q1590, ⟨by decide, by decide, by decide +kernel⟩⟩

set_option maxRecDepth 100000 in
set_option maxHeartbeats 4000000 in
theorem ct_X1_valueOf (l : Launch) (g : GT) (F : Nat → Prop) (S : MS) (n st ln : Nat) (hf hs : Bool) (o : Nat) (i q : Int32) (hl0 : l.stackTraces = false) : Ce l g yX1_valueOf cX1_valueOf 3 (some .int) 10 2 12 [.ref o, .int i, .int q] (SkR g F S n st ln hf hs o) (OQ (s_val S n i q)) (OX "java/lang/IndexOutOfBoundsException" "" (s_val S n i q)) := by
  refine Ce.of (by decide) (Nat.le_of_ble_eq_true rfl) ?_
  intro p e s m args below meth c X ht hP ls hl
  have hx := X.1
  have hb := X.2.1
  have hKV := X.2.2.2.2.2.2.2.1.1
  have hL : ∀ q ∈ ([] : List Loc), gLo g ≤ q.base := fun _ h => by cases h
  obtain ⟨sta, dq, sl, bf, x, hh, PB, PD, xs, fs, ob, hst, hR, hn, hbf, hPB, hdq, hsl, hf0, hf1, loo⟩ := hP.v
  have hw := hR.w
  obtain ⟨sb, sd, PG, PS, obs, hbg, hsd, hof, hinj⟩ := id hst
  have hl : lv_has ls 3 [(0, .ref o), (1, .int i), (2, .int q)] := hl
  have hE : Ext s.heap s.heap := Ext.rfl'
  refine lv_aload_n hx hb dX1_valueOf_0 rfl (lv_at hl 0 rfl) ?_
  refine lv_iload_n hx hb dX1_valueOf_1 rfl (lv_at hl 1 rfl) ?_
  refine lv_iload_n hx hb dX1_valueOf_2 rfl (lv_at hl 2 rfl) ?_
  refine Cp.callV (v := .int (bI (!(noB n i || noS q)))) (ct_X1_areBoth l g (S.1 0) n x o sta dq sl bf hh i q hn) X hL hl vb_X1_areBoth q1403 (ob.recv hKV rfl) rfl rfl (Nat.le_of_ble_eq_true rfl) dX1_valueOf_3 ⟨Nat.le_of_ble_eq_true rfl, Nat.le_of_ble_eq_true rfl⟩ (by omega) (by omega) ⟨ob, hst⟩ (fun locs hL => ?_)
  refine Ce.callS (ct_X1_requireIndex l g hl0 (!(noB n i || noS q)) ) X ht hL hl sb_X1_requireIndex q1380 rfl rfl (Nat.le_of_ble_eq_true rfl) dX1_valueOf_6 ⟨Nat.le_of_ble_eq_true rfl, Nat.le_of_ble_eq_true rfl⟩ (by omega) (by omega) trivial (fun E1 H1 hx => ⟨Or.inl ⟨hx.1, s_val_t (not_t hx.2.1)⟩, hE.trans hx.2.2⟩) (fun r H locs hL hp => ?_)
  obtain ⟨rfl, hHH, hc⟩ := hp
  subst hHH
  have hc : (noB n i || noS q) = false := not_f hc
  obtain ⟨hni, hnq⟩ := Bool.or_eq_false_iff.mp hc
  obtain ⟨hqc, hql⟩ := noS_nat hnq
  refine lv_aload_n hx hb dX1_valueOf_9 rfl (lv_at hl 0 rfl) ?_
  refine lv_iload_n hx hb dX1_valueOf_10 rfl (lv_at hl 1 rfl) ?_
  refine Ce.callV (ct_X1_at l g (S.1 0) n x o sta dq sl bf hh i hl0 hn) X ht hL hl vb_X1_at q1559 (ob.recv hKV rfl) rfl rfl (Nat.le_of_ble_eq_true rfl) dX1_valueOf_11 ⟨Nat.le_of_ble_eq_true rfl, Nat.le_of_ble_eq_true rfl⟩ (by omega) (by omega) ⟨ob, hst⟩ (fun E1 H1 hx => ⟨Or.inl ⟨hx.1, s_val_t (by rw [hx.2.1]; rfl)⟩, hE.trans hx.2.2⟩) (fun r H locs hL hp => ?_)
  obtain ⟨hnb, rfl, hE1⟩ := hp
  have ob := ob.ext hE1
  have obs := obs.ext hE1
  have hsl := hsl.ext hE1
  have hst := hst.ext hE1
  have hbg := hbg.ext hE1
  have hsd := hsd.ext hE1
  have hof := hof.ext hE1
  have hbf := hbf.ext hE1
  have hdq := hdq.ext hE1
  have hE := hE.trans hE1
  obtain ⟨hic, hil⟩ := noB_nat hn hnb
  have hoi := hof _ (rng_mem hil)
  obtain ⟨I, hofi⟩ := id hoi
  obtain ⟨ov, ow, oa⟩ := rdo hofi
  refine r_getN (C := RX6) (T := TX6) (N := 1) (ci := 5) X in_X6 rfl 0 (Nat.le_of_ble_eq_true rfl) q1357 (fun _ h => h) ow rfl dX1_valueOf_14 ?_
  refine lv_iload_n hx hb dX1_valueOf_17 rfl (lv_at hl 2 rfl) ?_
  refine W.stk (w := (nI q.toNatClampNeg)) hqc ?_
  refine r_ild X oa q.toNatClampNeg (nI_cl (by omega) rfl) (nI_nn (by omega) rfl) (by omega) dX1_valueOf_18 ?_
  exact vx_ret (r_iret X hL rfl rfl dX1_valueOf_19 (by omega) (by omega) (OQ.q (s_val_f hnb hnq) rfl hE))
theorem vb_X1_valueOf : VB yX1_valueOf cX1_valueOf 3 (some .int) 2 := ⟨q1556, q1557, q99, q1558, ⟨by decide, by decide, by decide +kernel⟩⟩

set_option maxRecDepth 100000 in
set_option maxHeartbeats 4000000 in
theorem ct_X1_toldAt (l : Launch) (g : GT) (F : Nat → Prop) (S : MS) (n st ln : Nat) (hf hs : Bool) (o : Nat) (i : Int32) (hl0 : l.stackTraces = false) : Ce l g yX1_toldAt cX1_toldAt 3 (some .int) 16 19 289 [.ref o, .int i] (SkR g F S n st ln hf hs o) (OQ (s_fst S (fstI (fun k => (tellB (S.1 0) n (hasB (matI (mw (S.1 0))))) k && decide (nI (cnt (tellB (S.1 0) n (hasB (matI (mw (S.1 0))))) k) = i)) n))) (OX "java/lang/IndexOutOfBoundsException" "" (s_fst S (fstI (fun k => (tellB (S.1 0) n (hasB (matI (mw (S.1 0))))) k && decide (nI (cnt (tellB (S.1 0) n (hasB (matI (mw (S.1 0))))) k) = i)) n))) := by
  refine Ce.of (by decide) (Nat.le_of_ble_eq_true rfl) ?_
  intro p e s m args below meth c X ht hP ls hl
  have hx := X.1
  have hb := X.2.1
  have hKV := X.2.2.2.2.2.2.2.1.1
  have hL : ∀ q ∈ ([] : List Loc), gLo g ≤ q.base := fun _ h => by cases h
  obtain ⟨sta, dq, sl, bf, x, hh, PB, PD, xs, fs, ob, hst, hR, hn, hbf, hPB, hdq, hsl, hf0, hf1, loo⟩ := hP.v
  have hw := hR.w
  obtain ⟨sb, sd, PG, PS, obs, hbg, hsd, hof, hinj⟩ := id hst
  have hl : lv_has ls 3 [(0, .ref o), (1, .int i)] := hl
  have hE : Ext s.heap s.heap := Ext.rfl'
  refine lv_aload_n hx hb dX1_toldAt_0 rfl (lv_at hl 0 rfl) ?_
  refine r_get (C := RX1) (T := TX1) (N := 5) (ci := 1) X in_X1 rfl 0 (Nat.le_of_ble_eq_true rfl) q280 (fun _ h => h) ob rfl dX1_toldAt_1 ?_
  refine lv_aload_n hx hb dX1_toldAt_4 rfl (lv_at hl 0 rfl) ?_
  refine r_get (C := RX1) (T := TX1) (N := 5) (ci := 1) X in_X1 rfl 0 (Nat.le_of_ble_eq_true rfl) q280 (fun _ h => h) ob rfl dX1_toldAt_5 ?_
  refine Ct.callV (ct_X2_active l g (S.1 0) n x sta hn) X hL hl vb_X2_active q998 (hst.recv hKV) rfl rfl (Nat.le_of_ble_eq_true rfl) dX1_toldAt_8 ⟨Nat.le_of_ble_eq_true rfl, Nat.le_of_ble_eq_true rfl⟩ (by omega) (by omega) hst (fun r H locs hL hp => ?_)
  obtain ⟨ba, hba, rfl, hE1⟩ := hp
  have ob := ob.ext hE1
  have obs := obs.ext hE1
  have hsl := hsl.ext hE1
  have hst := hst.ext hE1
  have hbg := hbg.ext hE1
  have hsd := hsd.ext hE1
  have hof := hof.ext hE1
  have hbf := hbf.ext hE1
  have hdq := hdq.ext hE1
  have hE := hE.trans hE1
  refine Ct.callV (ct_X2_told l g (S.1 0) x sta (actL (S.1 0) n) ba hw (act_len hn)) X hL hl vb_X2_told q1007 (hst.recv hKV) rfl rfl (Nat.le_of_ble_eq_true rfl) dX1_toldAt_11 ⟨Nat.le_of_ble_eq_true rfl, Nat.le_of_ble_eq_true rfl⟩ (by omega) (by omega) ⟨hst.sd, ⟨_, hba⟩, hof.sub (fun i hi => act_in hi)⟩ (fun r H locs hL hp => ?_)
  obtain ⟨bt, hbt, rfl, hE1⟩ := hp
  have ob := ob.ext hE1
  have obs := obs.ext hE1
  have hsl := hsl.ext hE1
  have hst := hst.ext hE1
  have hbg := hbg.ext hE1
  have hsd := hsd.ext hE1
  have hof := hof.ext hE1
  have hbf := hbf.ext hE1
  have hdq := hdq.ext hE1
  have hE := hE.trans hE1
  refine lv_astore_n (lv' := [(2, .ref _), (0, .ref _), (1, .int _)]) hx hb dX1_toldAt_14 rfl hl (by decide) rfl (fun ls hl => ?_)
  refine lv_iload_n hx hb dX1_toldAt_15 rfl (lv_at hl 2 rfl) ?_
  refine lv_iconst (v := nI 0) hx hb dX1_toldAt_16 (by decide) ?_
  refine lv_aload_n hx hb dX1_toldAt_17 rfl (lv_at hl 0 rfl) ?_
  refine Cp.callV (v := .int (nI _)) (ct_X3_size l g _ _ _ bt ) X hL hl vb_X3_size q993 (hbt.recv hKV) rfl rfl (Nat.le_of_ble_eq_true rfl) dX1_toldAt_18 ⟨Nat.le_of_ble_eq_true rfl, Nat.le_of_ble_eq_true rfl⟩ (by omega) (by omega) hbt (fun locs hL => ?_)
  refine lv_iconst (v := nI 1) hx hb dX1_toldAt_21 (by decide) ?_
  refine lv_isub hx hb dX1_toldAt_22 ?_
  refine Cp.callS (v := .int (bI (inB i (nI 0) (nI (tolL (S.1 0) (nI 15) (actL (S.1 0) n)).length - nI 1)))) (ct_X1_inRange l g i (nI 0) (nI (tolL (S.1 0) (nI 15) (actL (S.1 0) n)).length - nI 1) ) X hL hl sb_X1_inRange q1322 rfl rfl (Nat.le_of_ble_eq_true rfl) dX1_toldAt_23 ⟨Nat.le_of_ble_eq_true rfl, Nat.le_of_ble_eq_true rfl⟩ (by omega) (by omega) trivial (fun locs hL => ?_)
  refine Ce.callS (ct_X1_requireIndex l g hl0 (inB i (nI 0) (nI (tolL (S.1 0) (nI 15) (actL (S.1 0) n)).length - nI 1)) ) X ht hL hl sb_X1_requireIndex q1380 rfl rfl (Nat.le_of_ble_eq_true rfl) dX1_toldAt_26 ⟨Nat.le_of_ble_eq_true rfl, Nat.le_of_ble_eq_true rfl⟩ (by omega) (by omega) trivial (fun E1 H1 hx => ⟨Or.inl ⟨hx.1, s_fst_t (by rw [jn_fst hn, ← tol_15, if_pos (by unfold noB; rw [hx.2.1]; rfl)])⟩, hE.trans hx.2.2⟩) (fun r H locs hL hp => ?_)
  obtain ⟨rfl, hHH, hc⟩ := hp
  subst hHH
  have hll : (tolL (S.1 0) (nI 15) (actL (S.1 0) n)).length ≤ 40 := Nat.le_trans (List.length_filter_le _ _) (act_len hn)
  have hnb : noB (tolL (S.1 0) (nI 15) (actL (S.1 0) n)).length i = false := by unfold noB; rw [hc]; rfl
  obtain ⟨hic, hil⟩ := noB_nat hll hnb
  have hm := getD_mem hil
  have hkn : (tolL (S.1 0) (nI 15) (actL (S.1 0) n)).getD i.toNatClampNeg 0 < n := List.mem_range.mp (act_in (tol_in hm))
  obtain ⟨fsk, obk⟩ := (hof _ (rng_mem hkn)).ob
  refine lv_aload_n hx hb dX1_toldAt_29 rfl (lv_at hl 1 rfl) ?_
  refine r_get (C := RX1) (T := TX1) (N := 5) (ci := 1) X in_X1 rfl 0 (Nat.le_of_ble_eq_true rfl) q280 (fun _ h => h) ob rfl dX1_toldAt_30 ?_
  refine lv_aload_n hx hb dX1_toldAt_33 rfl (lv_at hl 0 rfl) ?_
  refine lv_iload_n hx hb dX1_toldAt_34 rfl (lv_at hl 2 rfl) ?_
  refine W.stk (w := (nI i.toNatClampNeg)) hic ?_
  refine Cp.callV (v := .ref (x ((tolL (S.1 0) (nI 15) (actL (S.1 0) n)).getD i.toNatClampNeg 0))) (ct_X3_get l g _ (XL x (tolL (S.1 0) (nI 15) (actL (S.1 0) n))) ((tolL (S.1 0) (nI 15) (actL (S.1 0) n)).length) bt i.toNatClampNeg hil) X hL hl vb_X3_get q1257 (hbt.recv hKV) rfl rfl (Nat.le_of_ble_eq_true rfl) dX1_toldAt_35 ⟨Nat.le_of_ble_eq_true rfl, Nat.le_of_ble_eq_true rfl⟩ (by omega) (by omega) hbt (fun locs hL => ?_)
  refine r_cast (ci := 5) X rfl obk q1258 dX1_toldAt_38 ?_
  refine Cp.callV (v := .int (nI ((tolL (S.1 0) (nI 15) (actL (S.1 0) n)).getD i.toNatClampNeg 0))) (ct_X2_numberOf l g (S.1 0) n x sta ((tolL (S.1 0) (nI 15) (actL (S.1 0) n)).getD i.toNatClampNeg 0) hn hkn) X hL hl vb_X2_numberOf q1259 (hst.recv hKV) rfl rfl (Nat.le_of_ble_eq_true rfl) dX1_toldAt_41 ⟨Nat.le_of_ble_eq_true rfl, Nat.le_of_ble_eq_true rfl⟩ (by omega) (by omega) hst (fun locs hL => ?_)
  exact vx_ret (r_iret X hL rfl rfl dX1_toldAt_44 (by omega) (by omega) (OQ.q (s_fst_f (by omega) (by rw [jn_fst hn, ← tol_15, if_neg (by rw [hnb]; decide)])) rfl hE))
theorem vb_X1_toldAt : VB yX1_toldAt cX1_toldAt 3 (some .int) 1 := ⟨q1646, q1647, q99, q1648, ⟨by decide, by decide, by decide +kernel⟩⟩

set_option maxRecDepth 100000 in
set_option maxHeartbeats 4000000 in
theorem ct_X1_byScore (l : Launch) (g : GT) (F : Nat → Prop) (S : MS) (n st ln : Nat) (hf hs : Bool) (o : Nat) (i : Int32) (hl0 : l.stackTraces = false) : Ce l g yX1_byScore cX1_byScore 3 (some .int) 16 19 289 [.ref o, .int i] (SkR g F S n st ln hf hs o) (OQ (s_fst S (fstI (fun k => cB (S.1 0) k && decide (nI (rnkN (S.1 0) n k) = i)) n))) (OX "java/lang/IndexOutOfBoundsException" "" (s_fst S (fstI (fun k => cB (S.1 0) k && decide (nI (rnkN (S.1 0) n k) = i)) n))) := by
  refine Ce.of (by decide) (Nat.le_of_ble_eq_true rfl) ?_
  intro p e s m args below meth c X ht hP ls hl
  have hx := X.1
  have hb := X.2.1
  have hKV := X.2.2.2.2.2.2.2.1.1
  have hL : ∀ q ∈ ([] : List Loc), gLo g ≤ q.base := fun _ h => by cases h
  obtain ⟨sta, dq, sl, bf, x, hh, PB, PD, xs, fs, ob, hst, hR, hn, hbf, hPB, hdq, hsl, hf0, hf1, loo⟩ := hP.v
  have hw := hR.w
  obtain ⟨sb, sd, PG, PS, obs, hbg, hsd, hof, hinj⟩ := id hst
  have hl : lv_has ls 3 [(0, .ref o), (1, .int i)] := hl
  have hE : Ext s.heap s.heap := Ext.rfl'
  refine lv_aload_n hx hb dX1_byScore_0 rfl (lv_at hl 0 rfl) ?_
  refine r_get (C := RX1) (T := TX1) (N := 5) (ci := 1) X in_X1 rfl 0 (Nat.le_of_ble_eq_true rfl) q280 (fun _ h => h) ob rfl dX1_byScore_1 ?_
  refine Ct.callV (ct_X2_scored l g (S.1 0) n x sta hn hw) X hL hl vb_X2_scored q1260 (hst.recv hKV) rfl rfl (Nat.le_of_ble_eq_true rfl) dX1_byScore_4 ⟨Nat.le_of_ble_eq_true rfl, Nat.le_of_ble_eq_true rfl⟩ (by omega) (by omega) hst (fun r H locs hL hp => ?_)
  obtain ⟨bt, hbt, rfl, hE1⟩ := hp
  have ob := ob.ext hE1
  have obs := obs.ext hE1
  have hsl := hsl.ext hE1
  have hst := hst.ext hE1
  have hbg := hbg.ext hE1
  have hsd := hsd.ext hE1
  have hof := hof.ext hE1
  have hbf := hbf.ext hE1
  have hdq := hdq.ext hE1
  have hE := hE.trans hE1
  refine lv_astore_n (lv' := [(2, .ref _), (0, .ref _), (1, .int _)]) hx hb dX1_byScore_7 rfl hl (by decide) rfl (fun ls hl => ?_)
  refine lv_iload_n hx hb dX1_byScore_8 rfl (lv_at hl 2 rfl) ?_
  refine lv_iconst (v := nI 0) hx hb dX1_byScore_9 (by decide) ?_
  refine lv_aload_n hx hb dX1_byScore_10 rfl (lv_at hl 0 rfl) ?_
  refine Cp.callV (v := .int (nI _)) (ct_X3_size l g _ _ _ bt ) X hL hl vb_X3_size q993 (hbt.recv hKV) rfl rfl (Nat.le_of_ble_eq_true rfl) dX1_byScore_11 ⟨Nat.le_of_ble_eq_true rfl, Nat.le_of_ble_eq_true rfl⟩ (by omega) (by omega) hbt (fun locs hL => ?_)
  refine lv_iconst (v := nI 1) hx hb dX1_byScore_14 (by decide) ?_
  refine lv_isub hx hb dX1_byScore_15 ?_
  refine Cp.callS (v := .int (bI (inB i (nI 0) (nI (scrL (S.1 0) n).length - nI 1)))) (ct_X1_inRange l g i (nI 0) (nI (scrL (S.1 0) n).length - nI 1) ) X hL hl sb_X1_inRange q1322 rfl rfl (Nat.le_of_ble_eq_true rfl) dX1_byScore_16 ⟨Nat.le_of_ble_eq_true rfl, Nat.le_of_ble_eq_true rfl⟩ (by omega) (by omega) trivial (fun locs hL => ?_)
  refine Ce.callS (ct_X1_requireIndex l g hl0 (inB i (nI 0) (nI (scrL (S.1 0) n).length - nI 1)) ) X ht hL hl sb_X1_requireIndex q1380 rfl rfl (Nat.le_of_ble_eq_true rfl) dX1_byScore_19 ⟨Nat.le_of_ble_eq_true rfl, Nat.le_of_ble_eq_true rfl⟩ (by omega) (by omega) trivial (fun E1 H1 hx => ⟨Or.inl ⟨hx.1, s_fst_t (by rw [jn_scr hn, if_pos (by unfold noB; rw [hx.2.1]; rfl)])⟩, hE.trans hx.2.2⟩) (fun r H locs hL hp => ?_)
  obtain ⟨rfl, hHH, hc⟩ := hp
  subst hHH
  have hll : (scrL (S.1 0) n).length ≤ 40 := scr_le hn
  have hnb : noB (scrL (S.1 0) n).length i = false := by unfold noB; rw [hc]; rfl
  obtain ⟨hic, hil⟩ := noB_nat hll hnb
  have hm := getD_mem hil
  have hkn : (scrL (S.1 0) n).getD i.toNatClampNeg 0 < n := List.mem_range.mp (rng_mem (scr_mem.mp hm).1)
  obtain ⟨fsk, obk⟩ := (hof _ (rng_mem hkn)).ob
  refine lv_aload_n hx hb dX1_byScore_22 rfl (lv_at hl 1 rfl) ?_
  refine r_get (C := RX1) (T := TX1) (N := 5) (ci := 1) X in_X1 rfl 0 (Nat.le_of_ble_eq_true rfl) q280 (fun _ h => h) ob rfl dX1_byScore_23 ?_
  refine lv_aload_n hx hb dX1_byScore_26 rfl (lv_at hl 0 rfl) ?_
  refine lv_iload_n hx hb dX1_byScore_27 rfl (lv_at hl 2 rfl) ?_
  refine W.stk (w := (nI i.toNatClampNeg)) hic ?_
  refine Cp.callV (v := .ref (x ((scrL (S.1 0) n).getD i.toNatClampNeg 0))) (ct_X3_get l g _ (XL x (scrL (S.1 0) n)) ((scrL (S.1 0) n).length) bt i.toNatClampNeg hil) X hL hl vb_X3_get q1257 (hbt.recv hKV) rfl rfl (Nat.le_of_ble_eq_true rfl) dX1_byScore_28 ⟨Nat.le_of_ble_eq_true rfl, Nat.le_of_ble_eq_true rfl⟩ (by omega) (by omega) hbt (fun locs hL => ?_)
  refine r_cast (ci := 5) X rfl obk q1258 dX1_byScore_31 ?_
  refine Cp.callV (v := .int (nI ((scrL (S.1 0) n).getD i.toNatClampNeg 0))) (ct_X2_numberOf l g (S.1 0) n x sta ((scrL (S.1 0) n).getD i.toNatClampNeg 0) hn hkn) X hL hl vb_X2_numberOf q1259 (hst.recv hKV) rfl rfl (Nat.le_of_ble_eq_true rfl) dX1_byScore_34 ⟨Nat.le_of_ble_eq_true rfl, Nat.le_of_ble_eq_true rfl⟩ (by omega) (by omega) hst (fun locs hL => ?_)
  exact vx_ret (r_iret X hL rfl rfl dX1_byScore_37 (by omega) (by omega) (OQ.q (s_fst_f (by omega) (by rw [jn_scr hn, if_neg (by rw [hnb]; decide)])) rfl hE))
theorem vb_X1_byScore : VB yX1_byScore cX1_byScore 3 (some .int) 1 := ⟨q1793, q1794, q99, q1795, ⟨by decide, by decide, by decide +kernel⟩⟩

set_option maxRecDepth 100000 in
set_option maxHeartbeats 4000000 in
theorem ct_X1_takenAt (l : Launch) (g : GT) (F : Nat → Prop) (S : MS) (n st ln : Nat) (hf hs : Bool) (o : Nat) (i : Int32) (hl0 : l.stackTraces = false) : Ce l g yX1_takenAt cX1_takenAt 3 (some .int) 16 41 646 [.ref o, .int i] (SkR g F S n st ln hf hs o) (OQ (s_taken S n i)) (OX "java/lang/IndexOutOfBoundsException" "" (s_taken S n i)) := by
  refine Ce.of (by decide) (Nat.le_of_ble_eq_true rfl) ?_
  intro p e s m args below meth c X ht hP ls hl
  have hx := X.1
  have hb := X.2.1
  have hKV := X.2.2.2.2.2.2.2.1.1
  have hL : ∀ q ∈ ([] : List Loc), gLo g ≤ q.base := fun _ h => by cases h
  obtain ⟨sta, dq, sl, bf, x, hh, PB, PD, xs, fs, ob, hst, hR, hn, hbf, hPB, hdq, hsl, hf0, hf1, loo⟩ := hP.v
  have hw := hR.w
  obtain ⟨sb, sd, PG, PS, obs, hbg, hsd, hof, hinj⟩ := id hst
  have hl : lv_has ls 3 [(0, .ref o), (1, .int i)] := hl
  have hE : Ext s.heap s.heap := Ext.rfl'
  refine lv_aload_n hx hb dX1_takenAt_0 rfl (lv_at hl 0 rfl) ?_
  refine r_get (C := RX1) (T := TX1) (N := 5) (ci := 1) X in_X1 rfl 0 (Nat.le_of_ble_eq_true rfl) q280 (fun _ h => h) ob rfl dX1_takenAt_1 ?_
  refine Ct.callV (ct_X2_takenInOrder l g (S.1 0) n x sta hn hw) X hL hl vb_X2_takenInOrder q1253 (hst.recv hKV) rfl rfl (Nat.le_of_ble_eq_true rfl) dX1_takenAt_4 ⟨Nat.le_of_ble_eq_true rfl, Nat.le_of_ble_eq_true rfl⟩ (by omega) (by omega) hst (fun r H locs hL hp => ?_)
  obtain ⟨bt, hbt, rfl, hE1⟩ := hp
  have ob := ob.ext hE1
  have obs := obs.ext hE1
  have hsl := hsl.ext hE1
  have hst := hst.ext hE1
  have hbg := hbg.ext hE1
  have hsd := hsd.ext hE1
  have hof := hof.ext hE1
  have hbf := hbf.ext hE1
  have hdq := hdq.ext hE1
  have hE := hE.trans hE1
  refine lv_astore_n (lv' := [(2, .ref _), (0, .ref _), (1, .int _)]) hx hb dX1_takenAt_7 rfl hl (by decide) rfl (fun ls hl => ?_)
  refine lv_iload_n hx hb dX1_takenAt_8 rfl (lv_at hl 2 rfl) ?_
  refine lv_iconst (v := nI 0) hx hb dX1_takenAt_9 (by decide) ?_
  refine lv_aload_n hx hb dX1_takenAt_10 rfl (lv_at hl 0 rfl) ?_
  refine Cp.callV (v := .int (nI _)) (ct_X3_size l g _ _ _ bt ) X hL hl vb_X3_size q993 (hbt.recv hKV) rfl rfl (Nat.le_of_ble_eq_true rfl) dX1_takenAt_11 ⟨Nat.le_of_ble_eq_true rfl, Nat.le_of_ble_eq_true rfl⟩ (by omega) (by omega) hbt (fun locs hL => ?_)
  refine lv_iconst (v := nI 1) hx hb dX1_takenAt_14 (by decide) ?_
  refine lv_isub hx hb dX1_takenAt_15 ?_
  refine Cp.callS (v := .int (bI (inB i (nI 0) (nI (tkR (S.1 0) n (min 40 (cnt (toT (S.1 0) n) n))).length - nI 1)))) (ct_X1_inRange l g i (nI 0) (nI (tkR (S.1 0) n (min 40 (cnt (toT (S.1 0) n) n))).length - nI 1) ) X hL hl sb_X1_inRange q1322 rfl rfl (Nat.le_of_ble_eq_true rfl) dX1_takenAt_16 ⟨Nat.le_of_ble_eq_true rfl, Nat.le_of_ble_eq_true rfl⟩ (by omega) (by omega) trivial (fun locs hL => ?_)
  refine Ce.callS (ct_X1_requireIndex l g hl0 (inB i (nI 0) (nI (tkR (S.1 0) n (min 40 (cnt (toT (S.1 0) n) n))).length - nI 1)) ) X ht hL hl sb_X1_requireIndex q1380 rfl rfl (Nat.le_of_ble_eq_true rfl) dX1_takenAt_19 ⟨Nat.le_of_ble_eq_true rfl, Nat.le_of_ble_eq_true rfl⟩ (by omega) (by omega) trivial (fun E1 H1 hx => ⟨Or.inl ⟨hx.1, s_tak_t (by rw [tkR_len, Nat.min_comm] at hx; exact hx.2.1)⟩, hE.trans hx.2.2⟩) (fun r H locs hL hp => ?_)
  obtain ⟨rfl, hHH, hc⟩ := hp
  subst hHH
  have hll : (tkR (S.1 0) n (min 40 (cnt (toT (S.1 0) n) n))).length ≤ 40 := (by rw [tkR_len]; omega)
  have hnb : noB (tkR (S.1 0) n (min 40 (cnt (toT (S.1 0) n) n))).length i = false := by unfold noB; rw [hc]; rfl
  obtain ⟨hic, hil⟩ := noB_nat hll hnb
  have hm := getD_mem hil
  have hkn : (tkR (S.1 0) n (min 40 (cnt (toT (S.1 0) n) n))).getD i.toNatClampNeg 0 < n := List.mem_range.mp (tkR_in hn (Nat.min_le_right _ _) hm)
  obtain ⟨fsk, obk⟩ := (hof _ (rng_mem hkn)).ob
  refine lv_aload_n hx hb dX1_takenAt_22 rfl (lv_at hl 1 rfl) ?_
  refine r_get (C := RX1) (T := TX1) (N := 5) (ci := 1) X in_X1 rfl 0 (Nat.le_of_ble_eq_true rfl) q280 (fun _ h => h) ob rfl dX1_takenAt_23 ?_
  refine lv_aload_n hx hb dX1_takenAt_26 rfl (lv_at hl 0 rfl) ?_
  refine lv_iload_n hx hb dX1_takenAt_27 rfl (lv_at hl 2 rfl) ?_
  refine W.stk (w := (nI i.toNatClampNeg)) hic ?_
  refine Cp.callV (v := .ref (x ((tkR (S.1 0) n (min 40 (cnt (toT (S.1 0) n) n))).getD i.toNatClampNeg 0))) (ct_X3_get l g _ (XL x (tkR (S.1 0) n (min 40 (cnt (toT (S.1 0) n) n)))) ((tkR (S.1 0) n (min 40 (cnt (toT (S.1 0) n) n))).length) bt i.toNatClampNeg hil) X hL hl vb_X3_get q1257 (hbt.recv hKV) rfl rfl (Nat.le_of_ble_eq_true rfl) dX1_takenAt_28 ⟨Nat.le_of_ble_eq_true rfl, Nat.le_of_ble_eq_true rfl⟩ (by omega) (by omega) hbt (fun locs hL => ?_)
  refine r_cast (ci := 5) X rfl obk q1258 dX1_takenAt_31 ?_
  refine Cp.callV (v := .int (nI ((tkR (S.1 0) n (min 40 (cnt (toT (S.1 0) n) n))).getD i.toNatClampNeg 0))) (ct_X2_numberOf l g (S.1 0) n x sta ((tkR (S.1 0) n (min 40 (cnt (toT (S.1 0) n) n))).getD i.toNatClampNeg 0) hn hkn) X hL hl vb_X2_numberOf q1259 (hst.recv hKV) rfl rfl (Nat.le_of_ble_eq_true rfl) dX1_takenAt_34 ⟨Nat.le_of_ble_eq_true rfl, Nat.le_of_ble_eq_true rfl⟩ (by omega) (by omega) hst (fun locs hL => ?_)
  exact vx_ret (r_iret X hL rfl rfl dX1_takenAt_37 (by omega) (by omega) (OQ.q (s_tak_f (by rw [tkR_len, Nat.min_comm] at hnb; exact hnb) (tkR_get (S.1 0) (by rw [tkR_len] at hil; exact hil))) rfl hE))
theorem vb_X1_takenAt : VB yX1_takenAt cX1_takenAt 3 (some .int) 1 := ⟨q1779, q1780, q99, q1781, ⟨by decide, by decide, by decide +kernel⟩⟩

set_option maxRecDepth 100000 in
set_option maxHeartbeats 4000000 in
theorem ct_X1_layerByPeeling (l : Launch) (g : GT) (F : Nat → Prop) (S : MS) (n st ln : Nat) (hf hs : Bool) (o : Nat) (i : Int32) (hl0 : l.stackTraces = false) : Ce l g yX1_layerByPeeling cX1_layerByPeeling 2 (some .int) 20 2501 17006 [.ref o, .int i] (SkR g F S n st ln hf hs o) (OQ (s_one S n i (fun i => nI (LY (S.1 0) n i)))) (OX "java/lang/IndexOutOfBoundsException" "" (s_one S n i (fun i => nI (LY (S.1 0) n i)))) := by
  refine Ce.of (by decide) (Nat.le_of_ble_eq_true rfl) ?_
  intro p e s m args below meth c X ht hP ls hl
  have hx := X.1
  have hb := X.2.1
  have hKV := X.2.2.2.2.2.2.2.1.1
  have hL : ∀ q ∈ ([] : List Loc), gLo g ≤ q.base := fun _ h => by cases h
  obtain ⟨sta, dq, sl, bf, x, hh, PB, PD, xs, fs, ob, hst, hR, hn, hbf, hPB, hdq, hsl, hf0, hf1, loo⟩ := hP.v
  have hw := hR.w
  obtain ⟨sb, sd, PG, PS, obs, hbg, hsd, hof, hinj⟩ := id hst
  have hl : lv_has ls 2 [(0, .ref o), (1, .int i)] := hl
  have hE : Ext s.heap s.heap := Ext.rfl'
  refine lv_aload_n hx hb dX1_layerByPeeling_0 rfl (lv_at hl 0 rfl) ?_
  refine r_get (C := RX1) (T := TX1) (N := 5) (ci := 1) X in_X1 rfl 0 (Nat.le_of_ble_eq_true rfl) q280 (fun _ h => h) ob rfl dX1_layerByPeeling_1 ?_
  refine lv_iload_n hx hb dX1_layerByPeeling_4 rfl (lv_at hl 1 rfl) ?_
  refine Cp.callV (v := .int (bI (!noB n i))) (ct_X2_isOffer l g (S.1 0) n x sta i hn) X hL hl vb_X2_isOffer q1375 (hst.recv hKV) rfl rfl (Nat.le_of_ble_eq_true rfl) dX1_layerByPeeling_5 ⟨Nat.le_of_ble_eq_true rfl, Nat.le_of_ble_eq_true rfl⟩ (by omega) (by omega) hst (fun locs hL => ?_)
  refine Ce.callS (ct_X1_requireIndex l g hl0 (!noB n i) ) X ht hL hl sb_X1_requireIndex q1380 rfl rfl (Nat.le_of_ble_eq_true rfl) dX1_layerByPeeling_8 ⟨Nat.le_of_ble_eq_true rfl, Nat.le_of_ble_eq_true rfl⟩ (by omega) (by omega) trivial (fun E1 H1 hx => ⟨Or.inl ⟨hx.1, s_one_t (not_t hx.2.1)⟩, hE.trans hx.2.2⟩) (fun r H locs hL hp => ?_)
  obtain ⟨rfl, hHH, hc⟩ := hp
  subst hHH
  have hnb : noB n i = false := not_f hc
  obtain ⟨hic, hil⟩ := noB_nat hn hnb
  refine lv_aload_n hx hb dX1_layerByPeeling_11 rfl (lv_at hl 0 rfl) ?_
  refine r_get (C := RX1) (T := TX1) (N := 5) (ci := 1) X in_X1 rfl 0 (Nat.le_of_ble_eq_true rfl) q280 (fun _ h => h) ob rfl dX1_layerByPeeling_12 ?_
  refine Ct.callV (ct_X2_peeled l g (S.1 0) n x sta hn hw hR) X hL hl vb_X2_peeled q1069 (hst.recv hKV) rfl rfl (Nat.le_of_ble_eq_true rfl) dX1_layerByPeeling_15 ⟨Nat.le_of_ble_eq_true rfl, Nat.le_of_ble_eq_true rfl⟩ (by omega) (by omega) hst (fun r H locs hL hp => ?_)
  obtain ⟨lb, lbf, ⟨hlb, -, hlbf⟩, rfl, hE1⟩ := hp
  have ob := ob.ext hE1
  have obs := obs.ext hE1
  have hsl := hsl.ext hE1
  have hst := hst.ext hE1
  have hbg := hbg.ext hE1
  have hsd := hsd.ext hE1
  have hof := hof.ext hE1
  have hbf := hbf.ext hE1
  have hdq := hdq.ext hE1
  have hE := hE.trans hE1
  refine lv_iload_n hx hb dX1_layerByPeeling_18 rfl (lv_at hl 1 rfl) ?_
  refine W.stk (w := (nI i.toNatClampNeg)) hic ?_
  refine r_ild X hlb i.toNatClampNeg (nI_cl (by omega) rfl) (nI_nn (by omega) rfl) (by omega) dX1_layerByPeeling_19 ?_
  rw [show lbf i.toNatClampNeg = (nI (LY (S.1 0) n i.toNatClampNeg)) from (hlbf _ hil)]
  exact vx_ret (r_iret X hL rfl rfl dX1_layerByPeeling_20 (by omega) (by omega) (OQ.q (s_one_f hnb) rfl hE))
theorem vb_X1_layerByPeeling : VB yX1_layerByPeeling cX1_layerByPeeling 2 (some .int) 1 := ⟨q1653, q1654, q99, q1655, ⟨by decide, by decide, by decide +kernel⟩⟩

set_option maxRecDepth 100000 in
set_option maxHeartbeats 4000000 in
theorem ct_X1_layerByRows (l : Launch) (g : GT) (F : Nat → Prop) (S : MS) (n st ln : Nat) (hf hs : Bool) (o : Nat) (i : Int32) (hl0 : l.stackTraces = false) : Ce l g yX1_layerByRows cX1_layerByRows 2 (some .int) 10 2 46 [.ref o, .int i] (SkR g F S n st ln hf hs o) (OQ (s_one S n i (fun i => nI (LY (S.1 0) n i)))) (OX "java/lang/IndexOutOfBoundsException" "" (s_one S n i (fun i => nI (LY (S.1 0) n i)))) := by
  refine Ce.of (by decide) (Nat.le_of_ble_eq_true rfl) ?_
  intro p e s m args below meth c X ht hP ls hl
  have hx := X.1
  have hb := X.2.1
  have hKV := X.2.2.2.2.2.2.2.1.1
  have hL : ∀ q ∈ ([] : List Loc), gLo g ≤ q.base := fun _ h => by cases h
  obtain ⟨sta, dq, sl, bf, x, hh, PB, PD, xs, fs, ob, hst, hR, hn, hbf, hPB, hdq, hsl, hf0, hf1, loo⟩ := hP.v
  have hw := hR.w
  obtain ⟨sb, sd, PG, PS, obs, hbg, hsd, hof, hinj⟩ := id hst
  have hl : lv_has ls 2 [(0, .ref o), (1, .int i)] := hl
  have hE : Ext s.heap s.heap := Ext.rfl'
  refine lv_aload_n hx hb dX1_layerByRows_0 rfl (lv_at hl 0 rfl) ?_
  refine r_get (C := RX1) (T := TX1) (N := 5) (ci := 1) X in_X1 rfl 0 (Nat.le_of_ble_eq_true rfl) q280 (fun _ h => h) ob rfl dX1_layerByRows_1 ?_
  refine lv_iload_n hx hb dX1_layerByRows_4 rfl (lv_at hl 1 rfl) ?_
  refine Cp.callV (v := .int (bI (!noB n i))) (ct_X2_isOffer l g (S.1 0) n x sta i hn) X hL hl vb_X2_isOffer q1375 (hst.recv hKV) rfl rfl (Nat.le_of_ble_eq_true rfl) dX1_layerByRows_5 ⟨Nat.le_of_ble_eq_true rfl, Nat.le_of_ble_eq_true rfl⟩ (by omega) (by omega) hst (fun locs hL => ?_)
  refine Ce.callS (ct_X1_requireIndex l g hl0 (!noB n i) ) X ht hL hl sb_X1_requireIndex q1380 rfl rfl (Nat.le_of_ble_eq_true rfl) dX1_layerByRows_8 ⟨Nat.le_of_ble_eq_true rfl, Nat.le_of_ble_eq_true rfl⟩ (by omega) (by omega) trivial (fun E1 H1 hx => ⟨Or.inl ⟨hx.1, s_one_t (not_t hx.2.1)⟩, hE.trans hx.2.2⟩) (fun r H locs hL hp => ?_)
  obtain ⟨rfl, hHH, hc⟩ := hp
  subst hHH
  have hnb : noB n i = false := not_f hc
  obtain ⟨hic, hil⟩ := noB_nat hn hnb
  refine lv_aload_n hx hb dX1_layerByRows_11 rfl (lv_at hl 0 rfl) ?_
  refine r_get (C := RX1) (T := TX1) (N := 5) (ci := 1) X in_X1 rfl 0 (Nat.le_of_ble_eq_true rfl) q280 (fun _ h => h) ob rfl dX1_layerByRows_12 ?_
  refine Ct.callV (ct_X2_rowsByBeating l g (S.1 0) n x sta hn hw hR) X hL hl vb_X2_rowsByBeating q1164 (hst.recv hKV) rfl rfl (Nat.le_of_ble_eq_true rfl) dX1_layerByRows_15 ⟨Nat.le_of_ble_eq_true rfl, Nat.le_of_ble_eq_true rfl⟩ (by omega) (by omega) hst (fun r H locs hL hp => ?_)
  obtain ⟨lb, lbf, ⟨hlb, -, hlbf⟩, rfl, hE1⟩ := hp
  have ob := ob.ext hE1
  have obs := obs.ext hE1
  have hsl := hsl.ext hE1
  have hst := hst.ext hE1
  have hbg := hbg.ext hE1
  have hsd := hsd.ext hE1
  have hof := hof.ext hE1
  have hbf := hbf.ext hE1
  have hdq := hdq.ext hE1
  have hE := hE.trans hE1
  refine lv_iload_n hx hb dX1_layerByRows_18 rfl (lv_at hl 1 rfl) ?_
  refine W.stk (w := (nI i.toNatClampNeg)) hic ?_
  refine r_ild X hlb i.toNatClampNeg (nI_cl (by omega) rfl) (nI_nn (by omega) rfl) (by omega) dX1_layerByRows_19 ?_
  rw [show lbf i.toNatClampNeg = (nI (LY (S.1 0) n i.toNatClampNeg)) from (hlbf _ hil)]
  exact vx_ret (r_iret X hL rfl rfl dX1_layerByRows_20 (by omega) (by omega) (OQ.q (s_one_f hnb) rfl hE))
theorem vb_X1_layerByRows : VB yX1_layerByRows cX1_layerByRows 2 (some .int) 1 := ⟨q1660, q1661, q99, q1662, ⟨by decide, by decide, by decide +kernel⟩⟩

set_option maxRecDepth 100000 in
set_option maxHeartbeats 4000000 in
theorem ct_X1_inLayer (l : Launch) (g : GT) (F : Nat → Prop) (S : MS) (n st ln : Nat) (hf hs : Bool) (o : Nat) (i : Int32) (hl0 : l.stackTraces = false) : Ce l g yX1_inLayer cX1_inLayer 2 (some .int) 20 2501 17006 [.ref o, .int i] (SkR g F S n st ln hf hs o) (OQ (s_inL S n i)) (OX "java/lang/IllegalArgumentException" "" (s_inL S n i)) := by
  refine Ce.of (by decide) (Nat.le_of_ble_eq_true rfl) ?_
  intro p e s m args below meth c X ht hP ls hl
  have hx := X.1
  have hb := X.2.1
  have hKV := X.2.2.2.2.2.2.2.1.1
  have hL : ∀ q ∈ ([] : List Loc), gLo g ≤ q.base := fun _ h => by cases h
  obtain ⟨sta, dq, sl, bf, x, hh, PB, PD, xs, fs, ob, hst, hR, hn, hbf, hPB, hdq, hsl, hf0, hf1, loo⟩ := hP.v
  have hw := hR.w
  obtain ⟨sb, sd, PG, PS, obs, hbg, hsd, hof, hinj⟩ := id hst
  have hl : lv_has ls 2 [(0, .ref o), (1, .int i)] := hl
  have hE : Ext s.heap s.heap := Ext.rfl'
  refine lv_iload_n hx hb dX1_inLayer_0 rfl (lv_at hl 1 rfl) ?_
  refine lv_iconst (v := nI 1) hx hb dX1_inLayer_1 (by decide) ?_
  refine lv_icmp_lt (tgt := 9) hx hb dX1_inLayer_2 (by decide) (fun c_2 => ?_) (fun c_2 => ?_)
  ·
    refine lv_iconst (v := nI 0) hx hb dX1_inLayer_9 (by decide) ?_
    refine Ce.callS (ct_X1_require l g hl0 false ) X ht hL hl sb_X1_require q1323 rfl rfl (Nat.le_of_ble_eq_true rfl) dX1_inLayer_10 ⟨Nat.le_of_ble_eq_true rfl, Nat.le_of_ble_eq_true rfl⟩ (by omega) (by omega) trivial (fun E1 H1 hx => ⟨Or.inl ⟨hx.1, s_inL_t c_2⟩, hE.trans hx.2.2⟩) (fun r H locs hL hp => ?_)
    exact absurd hp.2.2 (by decide)
  ·
    refine lv_iconst (v := nI 1) hx hb dX1_inLayer_5 (by decide) ?_
    refine lv_goto (tgt := 10) hx hb dX1_inLayer_6 (by decide) ?_
    refine Ce.callS (ct_X1_require l g hl0 true ) X ht hL hl sb_X1_require q1323 rfl rfl (Nat.le_of_ble_eq_true rfl) dX1_inLayer_10 ⟨Nat.le_of_ble_eq_true rfl, Nat.le_of_ble_eq_true rfl⟩ (by omega) (by omega) trivial (fun E1 H1 hx => ⟨Or.inl ⟨hx.1, absurd hx.2.1 (by decide)⟩, hE.trans hx.2.2⟩) (fun r H locs hL hp => ?_)
    obtain ⟨rfl, hHH, hc⟩ := hp
    subst hHH
    refine lv_aload_n hx hb dX1_inLayer_13 rfl (lv_at hl 0 rfl) ?_
    refine r_get (C := RX1) (T := TX1) (N := 5) (ci := 1) X in_X1 rfl 0 (Nat.le_of_ble_eq_true rfl) q280 (fun _ h => h) ob rfl dX1_inLayer_14 ?_
    refine Ct.callV (ct_X2_peeled l g (S.1 0) n x sta hn hw hR) X hL hl vb_X2_peeled q1069 (hst.recv hKV) rfl rfl (Nat.le_of_ble_eq_true rfl) dX1_inLayer_17 ⟨Nat.le_of_ble_eq_true rfl, Nat.le_of_ble_eq_true rfl⟩ (by omega) (by omega) hst (fun r H locs hL hp => ?_)
    obtain ⟨lb, lbf, ⟨hlb, -, hlbf⟩, rfl, hE1⟩ := hp
    have ob := ob.ext hE1
    have obs := obs.ext hE1
    have hsl := hsl.ext hE1
    have hst := hst.ext hE1
    have hbg := hbg.ext hE1
    have hsd := hsd.ext hE1
    have hof := hof.ext hE1
    have hbf := hbf.ext hE1
    have hdq := hdq.ext hE1
    have hE := hE.trans hE1
    refine lv_iload_n hx hb dX1_inLayer_20 rfl (lv_at hl 1 rfl) ?_
    refine Cp.callS (v := .int (nI (cnt (fun k => decide (nI (LY (S.1 0) n k) = i)) n))) (ct_X1_manyIn l g lb n lbf (LY (S.1 0) n) i hn hlbf) X hL hl sb_X1_manyIn q1670 rfl rfl (Nat.le_of_ble_eq_true rfl) dX1_inLayer_21 ⟨Nat.le_of_ble_eq_true rfl, Nat.le_of_ble_eq_true rfl⟩ (by omega) (by omega) hlb (fun locs hL => ?_)
    exact vx_ret (r_iret X hL rfl rfl dX1_inLayer_24 (by omega) (by omega) (OQ.q (s_inL_f c_2) rfl hE))
theorem vb_X1_inLayer : VB yX1_inLayer cX1_inLayer 2 (some .int) 1 := ⟨q1667, q1668, q99, q1669, ⟨by decide, by decide, by decide +kernel⟩⟩

set_option maxRecDepth 100000 in
set_option maxHeartbeats 4000000 in
theorem ct_X1_toldOn (l : Launch) (g : GT) (F : Nat → Prop) (S : MS) (n st ln : Nat) (hf hs : Bool) (o : Nat) (i : Int32) (hl0 : l.stackTraces = false) : Ce l g yX1_toldOn cX1_toldOn 2 (some .int) 15 11 150 [.ref o, .int i] (SkR g F S n st ln hf hs o) (OQ (s_bad S (!inB i (nI 1) (nI 15)) (nI (cnt (tellB (S.1 0) n (hasB (i &&& matI (mw (S.1 0))))) n)))) (OX "java/lang/IllegalArgumentException" "" (s_bad S (!inB i (nI 1) (nI 15)) (nI (cnt (tellB (S.1 0) n (hasB (i &&& matI (mw (S.1 0))))) n)))) := by
  refine Ce.of (by decide) (Nat.le_of_ble_eq_true rfl) ?_
  intro p e s m args below meth c X ht hP ls hl
  have hx := X.1
  have hb := X.2.1
  have hKV := X.2.2.2.2.2.2.2.1.1
  have hL : ∀ q ∈ ([] : List Loc), gLo g ≤ q.base := fun _ h => by cases h
  obtain ⟨sta, dq, sl, bf, x, hh, PB, PD, xs, fs, ob, hst, hR, hn, hbf, hPB, hdq, hsl, hf0, hf1, loo⟩ := hP.v
  have hw := hR.w
  obtain ⟨sb, sd, PG, PS, obs, hbg, hsd, hof, hinj⟩ := id hst
  have hl : lv_has ls 2 [(0, .ref o), (1, .int i)] := hl
  have hE : Ext s.heap s.heap := Ext.rfl'
  refine lv_iload_n hx hb dX1_toldOn_0 rfl (lv_at hl 1 rfl) ?_
  refine lv_iconst (v := nI 1) hx hb dX1_toldOn_1 (by decide) ?_
  refine lv_bipush (v := nI 15) hx hb dX1_toldOn_2 (by decide) ?_
  refine Cp.callS (v := .int (bI (inB i (nI 1) (nI 15)))) (ct_X1_inRange l g i (nI 1) (nI 15) ) X hL hl sb_X1_inRange q1322 rfl rfl (Nat.le_of_ble_eq_true rfl) dX1_toldOn_4 ⟨Nat.le_of_ble_eq_true rfl, Nat.le_of_ble_eq_true rfl⟩ (by omega) (by omega) trivial (fun locs hL => ?_)
  refine Ce.callS (ct_X1_require l g hl0 (inB i (nI 1) (nI 15)) ) X ht hL hl sb_X1_require q1323 rfl rfl (Nat.le_of_ble_eq_true rfl) dX1_toldOn_7 ⟨Nat.le_of_ble_eq_true rfl, Nat.le_of_ble_eq_true rfl⟩ (by omega) (by omega) trivial (fun E1 H1 hx => ⟨Or.inl ⟨hx.1, s_bad_t (by rw [hx.2.1]; rfl)⟩, hE.trans hx.2.2⟩) (fun r H locs hL hp => ?_)
  obtain ⟨rfl, hHH, hc⟩ := hp
  subst hHH
  refine lv_aload_n hx hb dX1_toldOn_10 rfl (lv_at hl 0 rfl) ?_
  refine r_get (C := RX1) (T := TX1) (N := 5) (ci := 1) X in_X1 rfl 0 (Nat.le_of_ble_eq_true rfl) q280 (fun _ h => h) ob rfl dX1_toldOn_11 ?_
  refine lv_iload_n hx hb dX1_toldOn_14 rfl (lv_at hl 1 rfl) ?_
  refine Ct.callV (ct_X2_toldBy l g (S.1 0) n x sta i hn hw) X hL hl vb_X2_toldBy q1207 (hst.recv hKV) rfl rfl (Nat.le_of_ble_eq_true rfl) dX1_toldOn_15 ⟨Nat.le_of_ble_eq_true rfl, Nat.le_of_ble_eq_true rfl⟩ (by omega) (by omega) hst (fun r H locs hL hp => ?_)
  obtain ⟨rfl, hE1⟩ := hp
  have ob := ob.ext hE1
  have obs := obs.ext hE1
  have hsl := hsl.ext hE1
  have hst := hst.ext hE1
  have hbg := hbg.ext hE1
  have hsd := hsd.ext hE1
  have hof := hof.ext hE1
  have hbf := hbf.ext hE1
  have hdq := hdq.ext hE1
  have hE := hE.trans hE1
  exact vx_ret (r_iret X hL rfl rfl dX1_toldOn_18 (by omega) (by omega) (OQ.q (s_bad_f (by rw [hc]; rfl)) (v_n (jn_on _ _ _)) hE))
theorem vb_X1_toldOn : VB yX1_toldOn cX1_toldOn 2 (some .int) 1 := ⟨q1677, q1678, q99, q1679, ⟨by decide, by decide, by decide +kernel⟩⟩

set_option maxRecDepth 100000 in
set_option maxHeartbeats 4000000 in
theorem ct_X1_toldWeakly (l : Launch) (g : GT) (F : Nat → Prop) (S : MS) (n st ln : Nat) (hf hs : Bool) (o : Nat) (i : Int32) (hl0 : l.stackTraces = false) : Ce l g yX1_toldWeakly cX1_toldWeakly 2 (some .int) 20 51 270 [.ref o, .int i] (SkR g F S n st ln hf hs o) (OQ (s_bad S (!inB i (nI 1) (nI 4)) (nI (cnt (fun k => cB (S.1 0) k && !anyB (wbB (S.1 0) i k) n) n)))) (OX "java/lang/IllegalArgumentException" "" (s_bad S (!inB i (nI 1) (nI 4)) (nI (cnt (fun k => cB (S.1 0) k && !anyB (wbB (S.1 0) i k) n) n)))) := by
  refine Ce.of (by decide) (Nat.le_of_ble_eq_true rfl) ?_
  intro p e s m args below meth c X ht hP ls hl
  have hx := X.1
  have hb := X.2.1
  have hKV := X.2.2.2.2.2.2.2.1.1
  have hL : ∀ q ∈ ([] : List Loc), gLo g ≤ q.base := fun _ h => by cases h
  obtain ⟨sta, dq, sl, bf, x, hh, PB, PD, xs, fs, ob, hst, hR, hn, hbf, hPB, hdq, hsl, hf0, hf1, loo⟩ := hP.v
  have hw := hR.w
  obtain ⟨sb, sd, PG, PS, obs, hbg, hsd, hof, hinj⟩ := id hst
  have hl : lv_has ls 2 [(0, .ref o), (1, .int i)] := hl
  have hE : Ext s.heap s.heap := Ext.rfl'
  refine lv_iload_n hx hb dX1_toldWeakly_0 rfl (lv_at hl 1 rfl) ?_
  refine lv_iconst (v := nI 1) hx hb dX1_toldWeakly_1 (by decide) ?_
  refine lv_iconst (v := nI 4) hx hb dX1_toldWeakly_2 (by decide) ?_
  refine Cp.callS (v := .int (bI (inB i (nI 1) (nI 4)))) (ct_X1_inRange l g i (nI 1) (nI 4) ) X hL hl sb_X1_inRange q1322 rfl rfl (Nat.le_of_ble_eq_true rfl) dX1_toldWeakly_3 ⟨Nat.le_of_ble_eq_true rfl, Nat.le_of_ble_eq_true rfl⟩ (by omega) (by omega) trivial (fun locs hL => ?_)
  refine Ce.callS (ct_X1_require l g hl0 (inB i (nI 1) (nI 4)) ) X ht hL hl sb_X1_require q1323 rfl rfl (Nat.le_of_ble_eq_true rfl) dX1_toldWeakly_6 ⟨Nat.le_of_ble_eq_true rfl, Nat.le_of_ble_eq_true rfl⟩ (by omega) (by omega) trivial (fun E1 H1 hx => ⟨Or.inl ⟨hx.1, s_bad_t (by rw [hx.2.1]; rfl)⟩, hE.trans hx.2.2⟩) (fun r H locs hL hp => ?_)
  obtain ⟨rfl, hHH, hc⟩ := hp
  subst hHH
  refine lv_aload_n hx hb dX1_toldWeakly_9 rfl (lv_at hl 0 rfl) ?_
  refine r_get (C := RX1) (T := TX1) (N := 5) (ci := 1) X in_X1 rfl 0 (Nat.le_of_ble_eq_true rfl) q280 (fun _ h => h) ob rfl dX1_toldWeakly_10 ?_
  refine lv_iload_n hx hb dX1_toldWeakly_13 rfl (lv_at hl 1 rfl) ?_
  refine Ct.callV (ct_X2_weakly l g (S.1 0) n x sta i hn hw) X hL hl vb_X2_weakly q1218 (hst.recv hKV) rfl rfl (Nat.le_of_ble_eq_true rfl) dX1_toldWeakly_14 ⟨Nat.le_of_ble_eq_true rfl, Nat.le_of_ble_eq_true rfl⟩ (by omega) (by omega) hst (fun r H locs hL hp => ?_)
  obtain ⟨rfl, hE1⟩ := hp
  have ob := ob.ext hE1
  have obs := obs.ext hE1
  have hsl := hsl.ext hE1
  have hst := hst.ext hE1
  have hbg := hbg.ext hE1
  have hsd := hsd.ext hE1
  have hof := hof.ext hE1
  have hbf := hbf.ext hE1
  have hdq := hdq.ext hE1
  have hE := hE.trans hE1
  exact vx_ret (r_iret X hL rfl rfl dX1_toldWeakly_17 (by omega) (by omega) (OQ.q (s_bad_f (by rw [hc]; rfl)) (v_n (weak_len _ _ _)) hE))
theorem vb_X1_toldWeakly : VB yX1_toldWeakly cX1_toldWeakly 2 (some .int) 1 := ⟨q1695, q1696, q99, q1697, ⟨by decide, by decide, by decide +kernel⟩⟩

set_option maxRecDepth 100000 in
set_option maxHeartbeats 4000000 in
theorem ct_X1_coveredGreedily (l : Launch) (g : GT) (F : Nat → Prop) (S : MS) (n st ln : Nat) (hf hs : Bool) (o : Nat) (i : Int32) (hl0 : l.stackTraces = false) : Ce l g yX1_coveredGreedily cX1_coveredGreedily 2 (some .int) 15 22 410 [.ref o, .int i] (SkR g F S n st ln hf hs o) (OQ (s_bad S (!inB i (nI 1) (nI 5)) (nI (grS (S.1 0) n (tellB (S.1 0) n (hasB (matI (mw (S.1 0))))) (min (cnt (tellB (S.1 0) n (hasB (matI (mw (S.1 0))))) n) i.toNatClampNeg)).2.2))) (OX "java/lang/IllegalArgumentException" "" (s_bad S (!inB i (nI 1) (nI 5)) (nI (grS (S.1 0) n (tellB (S.1 0) n (hasB (matI (mw (S.1 0))))) (min (cnt (tellB (S.1 0) n (hasB (matI (mw (S.1 0))))) n) i.toNatClampNeg)).2.2))) := by
  refine Ce.of (by decide) (Nat.le_of_ble_eq_true rfl) ?_
  intro p e s m args below meth c X ht hP ls hl
  have hx := X.1
  have hb := X.2.1
  have hKV := X.2.2.2.2.2.2.2.1.1
  have hL : ∀ q ∈ ([] : List Loc), gLo g ≤ q.base := fun _ h => by cases h
  obtain ⟨sta, dq, sl, bf, x, hh, PB, PD, xs, fs, ob, hst, hR, hn, hbf, hPB, hdq, hsl, hf0, hf1, loo⟩ := hP.v
  have hw := hR.w
  obtain ⟨sb, sd, PG, PS, obs, hbg, hsd, hof, hinj⟩ := id hst
  have hl : lv_has ls 2 [(0, .ref o), (1, .int i)] := hl
  have hE : Ext s.heap s.heap := Ext.rfl'
  refine lv_iload_n hx hb dX1_coveredGreedily_0 rfl (lv_at hl 1 rfl) ?_
  refine lv_iconst (v := nI 1) hx hb dX1_coveredGreedily_1 (by decide) ?_
  refine lv_iconst (v := nI 5) hx hb dX1_coveredGreedily_2 (by decide) ?_
  refine Cp.callS (v := .int (bI (inB i (nI 1) (nI 5)))) (ct_X1_inRange l g i (nI 1) (nI 5) ) X hL hl sb_X1_inRange q1322 rfl rfl (Nat.le_of_ble_eq_true rfl) dX1_coveredGreedily_3 ⟨Nat.le_of_ble_eq_true rfl, Nat.le_of_ble_eq_true rfl⟩ (by omega) (by omega) trivial (fun locs hL => ?_)
  refine Ce.callS (ct_X1_require l g hl0 (inB i (nI 1) (nI 5)) ) X ht hL hl sb_X1_require q1323 rfl rfl (Nat.le_of_ble_eq_true rfl) dX1_coveredGreedily_6 ⟨Nat.le_of_ble_eq_true rfl, Nat.le_of_ble_eq_true rfl⟩ (by omega) (by omega) trivial (fun E1 H1 hx => ⟨Or.inl ⟨hx.1, s_bad_t (by rw [hx.2.1]; rfl)⟩, hE.trans hx.2.2⟩) (fun r H locs hL hp => ?_)
  obtain ⟨rfl, hHH, hc⟩ := hp
  subst hHH
  obtain ⟨hic, -, hil⟩ := inB_nat (by omega) (by omega) hc
  refine lv_aload_n hx hb dX1_coveredGreedily_9 rfl (lv_at hl 0 rfl) ?_
  refine r_get (C := RX1) (T := TX1) (N := 5) (ci := 1) X in_X1 rfl 0 (Nat.le_of_ble_eq_true rfl) q280 (fun _ h => h) ob rfl dX1_coveredGreedily_10 ?_
  refine lv_iload_n hx hb dX1_coveredGreedily_13 rfl (lv_at hl 1 rfl) ?_
  refine W.stk (w := (nI i.toNatClampNeg)) hic ?_
  refine Ct.callV (ct_X2_coveredBy l g (S.1 0) n x sta i.toNatClampNeg hn hw (by omega)) X hL hl vb_X2_coveredBy q1236 (hst.recv hKV) rfl rfl (Nat.le_of_ble_eq_true rfl) dX1_coveredGreedily_14 ⟨Nat.le_of_ble_eq_true rfl, Nat.le_of_ble_eq_true rfl⟩ (by omega) (by omega) hst (fun r H locs hL hp => ?_)
  obtain ⟨rfl, hE1⟩ := hp
  have ob := ob.ext hE1
  have obs := obs.ext hE1
  have hsl := hsl.ext hE1
  have hst := hst.ext hE1
  have hbg := hbg.ext hE1
  have hsd := hsd.ext hE1
  have hof := hof.ext hE1
  have hbf := hbf.ext hE1
  have hdq := hdq.ext hE1
  have hE := hE.trans hE1
  exact vx_ret (r_iret X hL rfl rfl dX1_coveredGreedily_17 (by omega) (by omega) (OQ.q (s_bad_f (by rw [hc]; rfl)) (by rw [Nat.min_comm]; rfl) hE))
theorem vb_X1_coveredGreedily : VB yX1_coveredGreedily cX1_coveredGreedily 2 (some .int) 1 := ⟨q1772, q1773, q99, q1774, ⟨by decide, by decide, by decide +kernel⟩⟩

set_option maxRecDepth 100000 in
set_option maxHeartbeats 4000000 in
theorem ct_X1_wouldBeTold (l : Launch) (g : GT) (F : Nat → Prop) (S : MS) (n st ln : Nat) (hf hs : Bool) (o : Nat) (a b q t : Int32) (hl0 : l.stackTraces = false) : Ce l g yX1_wouldBeTold cX1_wouldBeTold 5 (some .boolean) 15 13 155 [.ref o, .int a, .int b, .int q, .int t] (SkR g F S n st ln hf hs o) (OQ (s_bad S (noVs a b q t) (bI (unB (S.1 0) n (amI a b q t))))) (OX "java/lang/IllegalArgumentException" "" (s_bad S (noVs a b q t) (bI (unB (S.1 0) n (amI a b q t))))) := by
  refine Ce.of (by decide) (Nat.le_of_ble_eq_true rfl) ?_
  intro p e s m args below meth c X ht hP ls hl
  have hx := X.1
  have hb := X.2.1
  have hKV := X.2.2.2.2.2.2.2.1.1
  have hL : ∀ q ∈ ([] : List Loc), gLo g ≤ q.base := fun _ h => by cases h
  obtain ⟨sta, dq, sl, bf, x, hh, PB, PD, xs, fs, ob, hst, hR, hn, hbf, hPB, hdq, hsl, hf0, hf1, loo⟩ := hP.v
  have hw := hR.w
  obtain ⟨sb, sd, PG, PS, obs, hbg, hsd, hof, hinj⟩ := id hst
  have hl : lv_has ls 5 [(0, .ref o), (1, .int a), (2, .int b), (3, .int q), (4, .int t)] := hl
  have hE : Ext s.heap s.heap := Ext.rfl'
  have hst0 := hst
  refine lv_iload_n hx hb dX1_wouldBeTold_0 rfl (lv_at hl 1 rfl) ?_
  refine lv_iload_n hx hb dX1_wouldBeTold_1 rfl (lv_at hl 2 rfl) ?_
  refine lv_iload_n hx hb dX1_wouldBeTold_2 rfl (lv_at hl 3 rfl) ?_
  refine lv_iload hx hb dX1_wouldBeTold_3 (lv_at hl 4 rfl) ?_
  refine Cp.callS (v := .int (bI (!noVs a b q t))) (ct_X1_areValues l g a b q t ) X hL hl sb_X1_areValues q1316 rfl rfl (Nat.le_of_ble_eq_true rfl) dX1_wouldBeTold_5 ⟨Nat.le_of_ble_eq_true rfl, Nat.le_of_ble_eq_true rfl⟩ (by omega) (by omega) trivial (fun locs hL => ?_)
  refine Ce.callS (ct_X1_require l g hl0 (!noVs a b q t) ) X ht hL hl sb_X1_require q1323 rfl rfl (Nat.le_of_ble_eq_true rfl) dX1_wouldBeTold_8 ⟨Nat.le_of_ble_eq_true rfl, Nat.le_of_ble_eq_true rfl⟩ (by omega) (by omega) trivial (fun E1 H1 hx => ⟨Or.inl ⟨hx.1, s_bad_t (not_t hx.2.1)⟩, hE.trans hx.2.2⟩) (fun r H locs hL hp => ?_)
  obtain ⟨rfl, hHH, hc⟩ := hp
  subst hHH
  have hnv : noVs a b q t = false := not_f hc
  refine lv_aload_n hx hb dX1_wouldBeTold_11 rfl (lv_at hl 0 rfl) ?_
  refine r_get (C := RX1) (T := TX1) (N := 5) (ci := 1) X in_X1 rfl 0 (Nat.le_of_ble_eq_true rfl) q280 (fun _ h => h) ob rfl dX1_wouldBeTold_12 ?_
  obtain ⟨b1, hb1⟩ : ∃ b, s.heap.size = b := ⟨_, rfl⟩
  have sz_b1 : s.heap.size ≤ b1 := by rw [← hb1]; exact Nat.le_refl _
  have lo_b1 : gLo g ≤ b1 := Nat.le_trans X.2.2.2.2.2.2.2.1.2.1 sz_b1
  have ne_o_b1 : o ≠ b1 := Nat.ne_of_lt (by rw [← hb1]; exact ob.lt)
  have ne_sta_b1 : sta ≠ b1 := Nat.ne_of_lt (by rw [← hb1]; exact obs.lt)
  have ne_sl_b1 : sl ≠ b1 := Nat.ne_of_lt (by rw [← hb1]; exact hsl.lt)
  refine r_new (C := RX6) (T := TX6) (N := 1) (ci := 5) X in_X6 tyX6 tyX6_ok q1258 q1349 q123 rfl (fs := [.null]) (fun j hj => by rcases j with _ | _ | _ | _ | _ | j <;> first | rfl | omega) (by show _ + 1 ≤ 13; omega) (by show _ + 1 ≤ 155; omega) dX1_wouldBeTold_15 (fun H ha_b1 hE_b1 hz_b1 => ?_)
  rw [hb1] at ha_b1 hz_b1 ⊢
  have ob := ob.ext hE_b1
  have obs := obs.ext hE_b1
  have hsl := hsl.ext hE_b1
  have hst := hst.ext hE_b1
  have hbg := hbg.ext hE_b1
  have hsd := hsd.ext hE_b1
  have hof := hof.ext hE_b1
  have hbf := hbf.ext hE_b1
  have hdq := hdq.ext hE_b1
  have hE := hE.trans hE_b1
  refine lv_dup hx hb dX1_wouldBeTold_18 rfl ?_
  refine lv_iconst (v := nI 4) hx hb dX1_wouldBeTold_19 (by decide) ?_
  obtain ⟨b2, hb2⟩ : ∃ b, H.size = b := ⟨_, rfl⟩
  have sz_b2 : s.heap.size ≤ b2 := by rw [← hb2]; exact hE.1
  have lo_b2 : gLo g ≤ b2 := Nat.le_trans X.2.2.2.2.2.2.2.1.2.1 sz_b2
  have ne_o_b2 : o ≠ b2 := Nat.ne_of_lt (by rw [← hb2]; exact ob.lt)
  have ne_sta_b2 : sta ≠ b2 := Nat.ne_of_lt (by rw [← hb2]; exact obs.lt)
  have ne_sl_b2 : sl ≠ b2 := Nat.ne_of_lt (by rw [← hb2]; exact hsl.lt)
  have ne_b1_b2 : b1 ≠ b2 := Nat.ne_of_lt (by rw [← hb2]; exact ha_b1.lt)
  refine r_newa (atype := .int) (k := 0) (ty := .int) X q209 rfl rfl (fun _ _ => rfl) (x := (nI 4)) (N' := 4) (4, .inl (fun _ => 0)) (fun _ => rfl) (nI_pos (by omega)) (nI_clamp (by omega)) (by show 4 * 4 ≤ 536870912; omega) (by show _ + 1 ≤ 13; omega) (by show _ + 4 ≤ 155; omega) dX1_wouldBeTold_20 (fun H ha_b2 hE_b2 hz_b2 => ?_)
  rw [hb2] at ha_b2 hz_b2 ⊢
  have ob := ob.ext hE_b2
  have obs := obs.ext hE_b2
  have hsl := hsl.ext hE_b2
  have ha_b1 := ha_b1.ext hE_b2
  have hst := hst.ext hE_b2
  have hbg := hbg.ext hE_b2
  have hsd := hsd.ext hE_b2
  have hof := hof.ext hE_b2
  have hbf := hbf.ext hE_b2
  have hdq := hdq.ext hE_b2
  have ha_b2 : Ar g b2 0 4 (fun _ => 0) H := ha_b2
  have hE := hE.trans hE_b2
  refine lv_dup hx hb dX1_wouldBeTold_22 rfl ?_
  refine lv_iconst (v := nI 0) hx hb dX1_wouldBeTold_23 (by decide) ?_
  refine lv_iload_n hx hb dX1_wouldBeTold_24 rfl (lv_at hl 1 rfl) ?_
  refine r_ist X hL ha_b2 lo_b2 0 (nI_cl (by omega) rfl) (nI_nn (by omega) rfl) (by omega) dX1_wouldBeTold_25 (fun H locs hL h1 h2 => ?_)
  have ha_b2 : Ar g b2 0 4 (upd (fun _ => 0) 0 a) H := h1
  have ob := ob.on h2 ne_o_b2
  have obs := obs.on h2 ne_sta_b2
  have hsl := hsl.on h2 ne_sl_b2
  have ha_b1 := ha_b1.on h2 ne_b1_b2
  have hE := hE.on h2 sz_b2
  refine lv_dup hx hb dX1_wouldBeTold_26 rfl ?_
  refine lv_iconst (v := nI 1) hx hb dX1_wouldBeTold_27 (by decide) ?_
  refine lv_iload_n hx hb dX1_wouldBeTold_28 rfl (lv_at hl 2 rfl) ?_
  refine r_ist X hL ha_b2 lo_b2 1 (nI_cl (by omega) rfl) (nI_nn (by omega) rfl) (by omega) dX1_wouldBeTold_29 (fun H locs hL h1 h2 => ?_)
  have ha_b2 : Ar g b2 0 4 (upd (upd (fun _ => 0) 0 a) 1 b) H := h1
  have ob := ob.on h2 ne_o_b2
  have obs := obs.on h2 ne_sta_b2
  have hsl := hsl.on h2 ne_sl_b2
  have ha_b1 := ha_b1.on h2 ne_b1_b2
  have hE := hE.on h2 sz_b2
  refine lv_dup hx hb dX1_wouldBeTold_30 rfl ?_
  refine lv_iconst (v := nI 2) hx hb dX1_wouldBeTold_31 (by decide) ?_
  refine lv_iload_n hx hb dX1_wouldBeTold_32 rfl (lv_at hl 3 rfl) ?_
  refine r_ist X hL ha_b2 lo_b2 2 (nI_cl (by omega) rfl) (nI_nn (by omega) rfl) (by omega) dX1_wouldBeTold_33 (fun H locs hL h1 h2 => ?_)
  have ha_b2 : Ar g b2 0 4 (upd (upd (upd (fun _ => 0) 0 a) 1 b) 2 q) H := h1
  have ob := ob.on h2 ne_o_b2
  have obs := obs.on h2 ne_sta_b2
  have hsl := hsl.on h2 ne_sl_b2
  have ha_b1 := ha_b1.on h2 ne_b1_b2
  have hE := hE.on h2 sz_b2
  refine lv_dup hx hb dX1_wouldBeTold_34 rfl ?_
  refine lv_iconst (v := nI 3) hx hb dX1_wouldBeTold_35 (by decide) ?_
  refine lv_iload hx hb dX1_wouldBeTold_36 (lv_at hl 4 rfl) ?_
  refine r_ist X hL ha_b2 lo_b2 3 (nI_cl (by omega) rfl) (nI_nn (by omega) rfl) (by omega) dX1_wouldBeTold_38 (fun H locs hL h1 h2 => ?_)
  have ha_b2 : Ar g b2 0 4 (upd (upd (upd (upd (fun _ => 0) 0 a) 1 b) 2 q) 3 t) H := h1
  have ob := ob.on h2 ne_o_b2
  have obs := obs.on h2 ne_sta_b2
  have hsl := hsl.on h2 ne_sl_b2
  have ha_b1 := ha_b1.on h2 ne_b1_b2
  have hE := hE.on h2 sz_b2
  refine Ct.callI (ct_X6_init l g (fun _ => True) b1 b2 lo_b1) X hL hl ib_X6_init q1350 rfl rfl (Nat.le_of_ble_eq_true rfl) dX1_wouldBeTold_39 ⟨Nat.le_of_ble_eq_true rfl, Nat.le_of_ble_eq_true rfl⟩ (by omega) (by omega) ha_b1 (fun r H locs hL hp => ?_)
  obtain ⟨rfl, ha_b1, hon⟩ := hp
  have hE0 := hE
  have hE := hE.on hon sz_b1
  have ha_b2 := ha_b2.on hon (Ne.symm ne_b1_b2)
  have hst := hst0.ext hE
  have hoq : OfQ g (amI a b q t) b1 H := ⟨fun _ => True, b2, trivial, trivial, lo_b1, lo_b2, ha_b1, ha_b2.to (amI_is a b q t)⟩
  refine Ct.callV (ct_X2_wouldStand l g (S.1 0) n x sta (amI a b q t) b1 hn hw) X hL hl vb_X2_wouldStand q1705 (hst.recv hKV) rfl rfl (Nat.le_of_ble_eq_true rfl) dX1_wouldBeTold_42 ⟨Nat.le_of_ble_eq_true rfl, Nat.le_of_ble_eq_true rfl⟩ (by omega) (by omega) ⟨hst, hoq⟩ (fun r H locs hL hp => ?_)
  obtain ⟨rfl, hE1⟩ := hp
  have hE := hE.trans hE1
  exact vx_ret (r_iret X hL rfl (narrow_bI _) dX1_wouldBeTold_45 (by omega) (by omega) (OQ.q (s_bad_f hnv) (v_b (stand_eq _ _ _).symm) hE))
theorem vb_X1_wouldBeTold : VB yX1_wouldBeTold cX1_wouldBeTold 5 (some .boolean) 4 := ⟨q1702, q1703, q99, q1704, ⟨by decide, by decide, by decide +kernel⟩⟩

set_option maxRecDepth 100000 in
set_option maxHeartbeats 4000000 in
theorem ct_X1_wouldBeat (l : Launch) (g : GT) (F : Nat → Prop) (S : MS) (n st ln : Nat) (hf hs : Bool) (o : Nat) (a b q t : Int32) (hl0 : l.stackTraces = false) : Ce l g yX1_wouldBeat cX1_wouldBeat 5 (some .int) 15 23 301 [.ref o, .int a, .int b, .int q, .int t] (SkR g F S n st ln hf hs o) (OQ (s_bad S (noVs a b q t) (nI (cnt (fun k => couB (mle (S.1 0)) (mgr (S.1 0)) (amI a b q t) && (tellB (S.1 0) n (hasB (matI (mw (S.1 0)))) k && decide (agN (mw (S.1 0)) (mv (S.1 0) k) (amI a b q t) = 2))) n)))) (OX "java/lang/IllegalArgumentException" "" (s_bad S (noVs a b q t) (nI (cnt (fun k => couB (mle (S.1 0)) (mgr (S.1 0)) (amI a b q t) && (tellB (S.1 0) n (hasB (matI (mw (S.1 0)))) k && decide (agN (mw (S.1 0)) (mv (S.1 0) k) (amI a b q t) = 2))) n)))) := by
  refine Ce.of (by decide) (Nat.le_of_ble_eq_true rfl) ?_
  intro p e s m args below meth c X ht hP ls hl
  have hx := X.1
  have hb := X.2.1
  have hKV := X.2.2.2.2.2.2.2.1.1
  have hL : ∀ q ∈ ([] : List Loc), gLo g ≤ q.base := fun _ h => by cases h
  obtain ⟨sta, dq, sl, bf, x, hh, PB, PD, xs, fs, ob, hst, hR, hn, hbf, hPB, hdq, hsl, hf0, hf1, loo⟩ := hP.v
  have hw := hR.w
  obtain ⟨sb, sd, PG, PS, obs, hbg, hsd, hof, hinj⟩ := id hst
  have hl : lv_has ls 5 [(0, .ref o), (1, .int a), (2, .int b), (3, .int q), (4, .int t)] := hl
  have hE : Ext s.heap s.heap := Ext.rfl'
  have hst0 := hst
  refine lv_iload_n hx hb dX1_wouldBeat_0 rfl (lv_at hl 1 rfl) ?_
  refine lv_iload_n hx hb dX1_wouldBeat_1 rfl (lv_at hl 2 rfl) ?_
  refine lv_iload_n hx hb dX1_wouldBeat_2 rfl (lv_at hl 3 rfl) ?_
  refine lv_iload hx hb dX1_wouldBeat_3 (lv_at hl 4 rfl) ?_
  refine Cp.callS (v := .int (bI (!noVs a b q t))) (ct_X1_areValues l g a b q t ) X hL hl sb_X1_areValues q1316 rfl rfl (Nat.le_of_ble_eq_true rfl) dX1_wouldBeat_5 ⟨Nat.le_of_ble_eq_true rfl, Nat.le_of_ble_eq_true rfl⟩ (by omega) (by omega) trivial (fun locs hL => ?_)
  refine Ce.callS (ct_X1_require l g hl0 (!noVs a b q t) ) X ht hL hl sb_X1_require q1323 rfl rfl (Nat.le_of_ble_eq_true rfl) dX1_wouldBeat_8 ⟨Nat.le_of_ble_eq_true rfl, Nat.le_of_ble_eq_true rfl⟩ (by omega) (by omega) trivial (fun E1 H1 hx => ⟨Or.inl ⟨hx.1, s_bad_t (not_t hx.2.1)⟩, hE.trans hx.2.2⟩) (fun r H locs hL hp => ?_)
  obtain ⟨rfl, hHH, hc⟩ := hp
  subst hHH
  have hnv : noVs a b q t = false := not_f hc
  refine lv_aload_n hx hb dX1_wouldBeat_11 rfl (lv_at hl 0 rfl) ?_
  refine r_get (C := RX1) (T := TX1) (N := 5) (ci := 1) X in_X1 rfl 0 (Nat.le_of_ble_eq_true rfl) q280 (fun _ h => h) ob rfl dX1_wouldBeat_12 ?_
  obtain ⟨b1, hb1⟩ : ∃ b, s.heap.size = b := ⟨_, rfl⟩
  have sz_b1 : s.heap.size ≤ b1 := by rw [← hb1]; exact Nat.le_refl _
  have lo_b1 : gLo g ≤ b1 := Nat.le_trans X.2.2.2.2.2.2.2.1.2.1 sz_b1
  have ne_o_b1 : o ≠ b1 := Nat.ne_of_lt (by rw [← hb1]; exact ob.lt)
  have ne_sta_b1 : sta ≠ b1 := Nat.ne_of_lt (by rw [← hb1]; exact obs.lt)
  have ne_sl_b1 : sl ≠ b1 := Nat.ne_of_lt (by rw [← hb1]; exact hsl.lt)
  refine r_new (C := RX6) (T := TX6) (N := 1) (ci := 5) X in_X6 tyX6 tyX6_ok q1258 q1349 q123 rfl (fs := [.null]) (fun j hj => by rcases j with _ | _ | _ | _ | _ | j <;> first | rfl | omega) (by show _ + 1 ≤ 23; omega) (by show _ + 1 ≤ 301; omega) dX1_wouldBeat_15 (fun H ha_b1 hE_b1 hz_b1 => ?_)
  rw [hb1] at ha_b1 hz_b1 ⊢
  have ob := ob.ext hE_b1
  have obs := obs.ext hE_b1
  have hsl := hsl.ext hE_b1
  have hst := hst.ext hE_b1
  have hbg := hbg.ext hE_b1
  have hsd := hsd.ext hE_b1
  have hof := hof.ext hE_b1
  have hbf := hbf.ext hE_b1
  have hdq := hdq.ext hE_b1
  have hE := hE.trans hE_b1
  refine lv_dup hx hb dX1_wouldBeat_18 rfl ?_
  refine lv_iconst (v := nI 4) hx hb dX1_wouldBeat_19 (by decide) ?_
  obtain ⟨b2, hb2⟩ : ∃ b, H.size = b := ⟨_, rfl⟩
  have sz_b2 : s.heap.size ≤ b2 := by rw [← hb2]; exact hE.1
  have lo_b2 : gLo g ≤ b2 := Nat.le_trans X.2.2.2.2.2.2.2.1.2.1 sz_b2
  have ne_o_b2 : o ≠ b2 := Nat.ne_of_lt (by rw [← hb2]; exact ob.lt)
  have ne_sta_b2 : sta ≠ b2 := Nat.ne_of_lt (by rw [← hb2]; exact obs.lt)
  have ne_sl_b2 : sl ≠ b2 := Nat.ne_of_lt (by rw [← hb2]; exact hsl.lt)
  have ne_b1_b2 : b1 ≠ b2 := Nat.ne_of_lt (by rw [← hb2]; exact ha_b1.lt)
  refine r_newa (atype := .int) (k := 0) (ty := .int) X q209 rfl rfl (fun _ _ => rfl) (x := (nI 4)) (N' := 4) (4, .inl (fun _ => 0)) (fun _ => rfl) (nI_pos (by omega)) (nI_clamp (by omega)) (by show 4 * 4 ≤ 536870912; omega) (by show _ + 1 ≤ 23; omega) (by show _ + 4 ≤ 301; omega) dX1_wouldBeat_20 (fun H ha_b2 hE_b2 hz_b2 => ?_)
  rw [hb2] at ha_b2 hz_b2 ⊢
  have ob := ob.ext hE_b2
  have obs := obs.ext hE_b2
  have hsl := hsl.ext hE_b2
  have ha_b1 := ha_b1.ext hE_b2
  have hst := hst.ext hE_b2
  have hbg := hbg.ext hE_b2
  have hsd := hsd.ext hE_b2
  have hof := hof.ext hE_b2
  have hbf := hbf.ext hE_b2
  have hdq := hdq.ext hE_b2
  have ha_b2 : Ar g b2 0 4 (fun _ => 0) H := ha_b2
  have hE := hE.trans hE_b2
  refine lv_dup hx hb dX1_wouldBeat_22 rfl ?_
  refine lv_iconst (v := nI 0) hx hb dX1_wouldBeat_23 (by decide) ?_
  refine lv_iload_n hx hb dX1_wouldBeat_24 rfl (lv_at hl 1 rfl) ?_
  refine r_ist X hL ha_b2 lo_b2 0 (nI_cl (by omega) rfl) (nI_nn (by omega) rfl) (by omega) dX1_wouldBeat_25 (fun H locs hL h1 h2 => ?_)
  have ha_b2 : Ar g b2 0 4 (upd (fun _ => 0) 0 a) H := h1
  have ob := ob.on h2 ne_o_b2
  have obs := obs.on h2 ne_sta_b2
  have hsl := hsl.on h2 ne_sl_b2
  have ha_b1 := ha_b1.on h2 ne_b1_b2
  have hE := hE.on h2 sz_b2
  refine lv_dup hx hb dX1_wouldBeat_26 rfl ?_
  refine lv_iconst (v := nI 1) hx hb dX1_wouldBeat_27 (by decide) ?_
  refine lv_iload_n hx hb dX1_wouldBeat_28 rfl (lv_at hl 2 rfl) ?_
  refine r_ist X hL ha_b2 lo_b2 1 (nI_cl (by omega) rfl) (nI_nn (by omega) rfl) (by omega) dX1_wouldBeat_29 (fun H locs hL h1 h2 => ?_)
  have ha_b2 : Ar g b2 0 4 (upd (upd (fun _ => 0) 0 a) 1 b) H := h1
  have ob := ob.on h2 ne_o_b2
  have obs := obs.on h2 ne_sta_b2
  have hsl := hsl.on h2 ne_sl_b2
  have ha_b1 := ha_b1.on h2 ne_b1_b2
  have hE := hE.on h2 sz_b2
  refine lv_dup hx hb dX1_wouldBeat_30 rfl ?_
  refine lv_iconst (v := nI 2) hx hb dX1_wouldBeat_31 (by decide) ?_
  refine lv_iload_n hx hb dX1_wouldBeat_32 rfl (lv_at hl 3 rfl) ?_
  refine r_ist X hL ha_b2 lo_b2 2 (nI_cl (by omega) rfl) (nI_nn (by omega) rfl) (by omega) dX1_wouldBeat_33 (fun H locs hL h1 h2 => ?_)
  have ha_b2 : Ar g b2 0 4 (upd (upd (upd (fun _ => 0) 0 a) 1 b) 2 q) H := h1
  have ob := ob.on h2 ne_o_b2
  have obs := obs.on h2 ne_sta_b2
  have hsl := hsl.on h2 ne_sl_b2
  have ha_b1 := ha_b1.on h2 ne_b1_b2
  have hE := hE.on h2 sz_b2
  refine lv_dup hx hb dX1_wouldBeat_34 rfl ?_
  refine lv_iconst (v := nI 3) hx hb dX1_wouldBeat_35 (by decide) ?_
  refine lv_iload hx hb dX1_wouldBeat_36 (lv_at hl 4 rfl) ?_
  refine r_ist X hL ha_b2 lo_b2 3 (nI_cl (by omega) rfl) (nI_nn (by omega) rfl) (by omega) dX1_wouldBeat_38 (fun H locs hL h1 h2 => ?_)
  have ha_b2 : Ar g b2 0 4 (upd (upd (upd (upd (fun _ => 0) 0 a) 1 b) 2 q) 3 t) H := h1
  have ob := ob.on h2 ne_o_b2
  have obs := obs.on h2 ne_sta_b2
  have hsl := hsl.on h2 ne_sl_b2
  have ha_b1 := ha_b1.on h2 ne_b1_b2
  have hE := hE.on h2 sz_b2
  refine Ct.callI (ct_X6_init l g (fun _ => True) b1 b2 lo_b1) X hL hl ib_X6_init q1350 rfl rfl (Nat.le_of_ble_eq_true rfl) dX1_wouldBeat_39 ⟨Nat.le_of_ble_eq_true rfl, Nat.le_of_ble_eq_true rfl⟩ (by omega) (by omega) ha_b1 (fun r H locs hL hp => ?_)
  obtain ⟨rfl, ha_b1, hon⟩ := hp
  have hE0 := hE
  have hE := hE.on hon sz_b1
  have ha_b2 := ha_b2.on hon (Ne.symm ne_b1_b2)
  have hst := hst0.ext hE
  have hoq : OfQ g (amI a b q t) b1 H := ⟨fun _ => True, b2, trivial, trivial, lo_b1, lo_b2, ha_b1, ha_b2.to (amI_is a b q t)⟩
  refine Ct.callV (ct_X2_wouldFall l g (S.1 0) n x sta (amI a b q t) b1 hn hw) X hL hl vb_X2_wouldFall q1716 (hst.recv hKV) rfl rfl (Nat.le_of_ble_eq_true rfl) dX1_wouldBeat_42 ⟨Nat.le_of_ble_eq_true rfl, Nat.le_of_ble_eq_true rfl⟩ (by omega) (by omega) ⟨hst, hoq⟩ (fun r H locs hL hp => ?_)
  obtain ⟨rfl, hE1⟩ := hp
  have hE := hE.trans hE1
  exact vx_ret (r_iret X hL rfl rfl dX1_wouldBeat_45 (by omega) (by omega) (OQ.q (s_bad_f hnv) (v_n (jn_fall _ _ _)) hE))
theorem vb_X1_wouldBeat : VB yX1_wouldBeat cX1_wouldBeat 5 (some .int) 4 := ⟨q1713, q1714, q99, q1715, ⟨by decide, by decide, by decide +kernel⟩⟩

set_option maxRecDepth 100000 in
set_option maxHeartbeats 4000000 in
theorem ct_X1_raiseByTrying (l : Launch) (g : GT) (F : Nat → Prop) (S : MS) (n st ln : Nat) (hf hs : Bool) (o : Nat) (i q : Int32) (hl0 : l.stackTraces = false) : Ce l g yX1_raiseByTrying cX1_raiseByTrying 3 (some .int) 16 2023 29418 [.ref o, .int i, .int q] (SkR g F S n st ln hf hs o) (OQ (s_raise S n i q)) (OX "java/lang/IndexOutOfBoundsException" "java/lang/IllegalStateException" (s_raise S n i q)) := by
  refine Ce.of (by decide) (Nat.le_of_ble_eq_true rfl) ?_
  intro p e s m args below meth c X ht hP ls hl
  have hx := X.1
  have hb := X.2.1
  have hKV := X.2.2.2.2.2.2.2.1.1
  have hL : ∀ q ∈ ([] : List Loc), gLo g ≤ q.base := fun _ h => by cases h
  obtain ⟨sta, dq, sl, bf, x, hh, PB, PD, xs, fs, ob, hst, hR, hn, hbf, hPB, hdq, hsl, hf0, hf1, loo⟩ := hP.v
  have hw := hR.w
  obtain ⟨sb, sd, PG, PS, obs, hbg, hsd, hof, hinj⟩ := id hst
  have hl : lv_has ls 3 [(0, .ref o), (1, .int i), (2, .int q)] := hl
  have hE : Ext s.heap s.heap := Ext.rfl'
  refine lv_aload_n hx hb dX1_raiseByTrying_0 rfl (lv_at hl 0 rfl) ?_
  refine lv_iload_n hx hb dX1_raiseByTrying_1 rfl (lv_at hl 1 rfl) ?_
  refine lv_iload_n hx hb dX1_raiseByTrying_2 rfl (lv_at hl 2 rfl) ?_
  refine Cp.callV (v := .int (bI (!(noB n i || noS q)))) (ct_X1_areBoth l g (S.1 0) n x o sta dq sl bf hh i q hn) X hL hl vb_X1_areBoth q1403 (ob.recv hKV rfl) rfl rfl (Nat.le_of_ble_eq_true rfl) dX1_raiseByTrying_3 ⟨Nat.le_of_ble_eq_true rfl, Nat.le_of_ble_eq_true rfl⟩ (by omega) (by omega) ⟨ob, hst⟩ (fun locs hL => ?_)
  refine Ce.callS (ct_X1_requireIndex l g hl0 (!(noB n i || noS q)) ) X ht hL hl sb_X1_requireIndex q1380 rfl rfl (Nat.le_of_ble_eq_true rfl) dX1_raiseByTrying_6 ⟨Nat.le_of_ble_eq_true rfl, Nat.le_of_ble_eq_true rfl⟩ (by omega) (by omega) trivial (fun E1 H1 hx => ⟨Or.inl ⟨hx.1, s_raise_1 (not_t hx.2.1)⟩, hE.trans hx.2.2⟩) (fun r H locs hL hp => ?_)
  obtain ⟨rfl, hHH, hc⟩ := hp
  subst hHH
  have hc : (noB n i || noS q) = false := not_f hc
  obtain ⟨hni, hnq⟩ := Bool.or_eq_false_iff.mp hc
  obtain ⟨hqc, hql⟩ := noS_nat hnq
  refine lv_aload_n hx hb dX1_raiseByTrying_9 rfl (lv_at hl 0 rfl) ?_
  refine r_get (C := RX1) (T := TX1) (N := 5) (ci := 1) X in_X1 rfl 0 (Nat.le_of_ble_eq_true rfl) q280 (fun _ h => h) ob rfl dX1_raiseByTrying_10 ?_
  refine lv_aload_n hx hb dX1_raiseByTrying_13 rfl (lv_at hl 0 rfl) ?_
  refine lv_iload_n hx hb dX1_raiseByTrying_14 rfl (lv_at hl 1 rfl) ?_
  refine Ce.callV (ct_X1_at l g (S.1 0) n x o sta dq sl bf hh i hl0 hn) X ht hL hl vb_X1_at q1559 (ob.recv hKV rfl) rfl rfl (Nat.le_of_ble_eq_true rfl) dX1_raiseByTrying_15 ⟨Nat.le_of_ble_eq_true rfl, Nat.le_of_ble_eq_true rfl⟩ (by omega) (by omega) ⟨ob, hst⟩ (fun E1 H1 hx => ⟨Or.inl ⟨hx.1, s_raise_1 (by rw [hx.2.1]; rfl)⟩, hE.trans hx.2.2⟩) (fun r H locs hL hp => ?_)
  obtain ⟨hnb, rfl, hE1⟩ := hp
  have ob := ob.ext hE1
  have obs := obs.ext hE1
  have hsl := hsl.ext hE1
  have hst := hst.ext hE1
  have hbg := hbg.ext hE1
  have hsd := hsd.ext hE1
  have hof := hof.ext hE1
  have hbf := hbf.ext hE1
  have hdq := hdq.ext hE1
  have hE := hE.trans hE1
  obtain ⟨hic, hil⟩ := noB_nat hn hnb
  have hoi := hof _ (rng_mem hil)
  obtain ⟨I, hofi⟩ := id hoi
  refine lv_iload_n hx hb dX1_raiseByTrying_18 rfl (lv_at hl 2 rfl) ?_
  refine W.stk (w := (nI q.toNatClampNeg)) hqc ?_
  refine Ct.callV (ct_X2_triedRaise l g (S.1 0) n x sta i.toNatClampNeg q.toNatClampNeg hn hw hR hil hql) X hL hl vb_X2_triedRaise q1730 (hst.recv hKV) rfl rfl (Nat.le_of_ble_eq_true rfl) dX1_raiseByTrying_19 ⟨Nat.le_of_ble_eq_true rfl, Nat.le_of_ble_eq_true rfl⟩ (by omega) (by omega) hst (fun r H locs hL hp => ?_)
  obtain ⟨rfl, hE1⟩ := hp
  have ob := ob.ext hE1
  have obs := obs.ext hE1
  have hsl := hsl.ext hE1
  have hst := hst.ext hE1
  have hbg := hbg.ext hE1
  have hsd := hsd.ext hE1
  have hof := hof.ext hE1
  have hbf := hbf.ext hE1
  have hdq := hdq.ext hE1
  have hE := hE.trans hE1
  refine W.stk (w := (if cB (S.1 0) i.toNatClampNeg && matB (mw (S.1 0)) q.toNatClampNeg then raI (S.1 0) n i.toNatClampNeg q.toNatClampNeg else (-1))) (raise_cast hn hil hql) ?_
  refine Ce.callS (ct_X1_told l g (if cB (S.1 0) i.toNatClampNeg && matB (mw (S.1 0)) q.toNatClampNeg then raI (S.1 0) n i.toNatClampNeg q.toNatClampNeg else (-1)) hl0) X ht hL hl sb_X1_told q1749 rfl rfl (Nat.le_of_ble_eq_true rfl) dX1_raiseByTrying_22 ⟨Nat.le_of_ble_eq_true rfl, Nat.le_of_ble_eq_true rfl⟩ (by omega) (by omega) trivial (fun E1 H1 hx => ⟨Or.inr ⟨hx.1, s_raise_2 hnb hnq hx.2.1⟩, hE.trans hx.2.2⟩) (fun r H locs hL hp => ?_)
  obtain ⟨hv1, rfl, hE1⟩ := hp
  have hE := hE.trans hE1
  exact vx_ret (r_iret X hL rfl rfl dX1_raiseByTrying_25 (by omega) (by omega) (OQ.q (s_raise_0 hnb hnq hv1) rfl hE))
theorem vb_X1_raiseByTrying : VB yX1_raiseByTrying cX1_raiseByTrying 3 (some .int) 2 := ⟨q1727, q1728, q99, q1729, ⟨by decide, by decide, by decide +kernel⟩⟩

set_option maxRecDepth 100000 in
set_option maxHeartbeats 4000000 in
theorem ct_X1_raiseByBeaters (l : Launch) (g : GT) (F : Nat → Prop) (S : MS) (n st ln : Nat) (hf hs : Bool) (o : Nat) (i q : Int32) (hl0 : l.stackTraces = false) : Ce l g yX1_raiseByBeaters cX1_raiseByBeaters 3 (some .int) 16 12 159 [.ref o, .int i, .int q] (SkR g F S n st ln hf hs o) (OQ (s_raise S n i q)) (OX "java/lang/IndexOutOfBoundsException" "java/lang/IllegalStateException" (s_raise S n i q)) := by
  refine Ce.of (by decide) (Nat.le_of_ble_eq_true rfl) ?_
  intro p e s m args below meth c X ht hP ls hl
  have hx := X.1
  have hb := X.2.1
  have hKV := X.2.2.2.2.2.2.2.1.1
  have hL : ∀ q ∈ ([] : List Loc), gLo g ≤ q.base := fun _ h => by cases h
  obtain ⟨sta, dq, sl, bf, x, hh, PB, PD, xs, fs, ob, hst, hR, hn, hbf, hPB, hdq, hsl, hf0, hf1, loo⟩ := hP.v
  have hw := hR.w
  obtain ⟨sb, sd, PG, PS, obs, hbg, hsd, hof, hinj⟩ := id hst
  have hl : lv_has ls 3 [(0, .ref o), (1, .int i), (2, .int q)] := hl
  have hE : Ext s.heap s.heap := Ext.rfl'
  refine lv_aload_n hx hb dX1_raiseByBeaters_0 rfl (lv_at hl 0 rfl) ?_
  refine lv_iload_n hx hb dX1_raiseByBeaters_1 rfl (lv_at hl 1 rfl) ?_
  refine lv_iload_n hx hb dX1_raiseByBeaters_2 rfl (lv_at hl 2 rfl) ?_
  refine Cp.callV (v := .int (bI (!(noB n i || noS q)))) (ct_X1_areBoth l g (S.1 0) n x o sta dq sl bf hh i q hn) X hL hl vb_X1_areBoth q1403 (ob.recv hKV rfl) rfl rfl (Nat.le_of_ble_eq_true rfl) dX1_raiseByBeaters_3 ⟨Nat.le_of_ble_eq_true rfl, Nat.le_of_ble_eq_true rfl⟩ (by omega) (by omega) ⟨ob, hst⟩ (fun locs hL => ?_)
  refine Ce.callS (ct_X1_requireIndex l g hl0 (!(noB n i || noS q)) ) X ht hL hl sb_X1_requireIndex q1380 rfl rfl (Nat.le_of_ble_eq_true rfl) dX1_raiseByBeaters_6 ⟨Nat.le_of_ble_eq_true rfl, Nat.le_of_ble_eq_true rfl⟩ (by omega) (by omega) trivial (fun E1 H1 hx => ⟨Or.inl ⟨hx.1, s_raise_1 (not_t hx.2.1)⟩, hE.trans hx.2.2⟩) (fun r H locs hL hp => ?_)
  obtain ⟨rfl, hHH, hc⟩ := hp
  subst hHH
  have hc : (noB n i || noS q) = false := not_f hc
  obtain ⟨hni, hnq⟩ := Bool.or_eq_false_iff.mp hc
  obtain ⟨hqc, hql⟩ := noS_nat hnq
  refine lv_aload_n hx hb dX1_raiseByBeaters_9 rfl (lv_at hl 0 rfl) ?_
  refine r_get (C := RX1) (T := TX1) (N := 5) (ci := 1) X in_X1 rfl 0 (Nat.le_of_ble_eq_true rfl) q280 (fun _ h => h) ob rfl dX1_raiseByBeaters_10 ?_
  refine lv_aload_n hx hb dX1_raiseByBeaters_13 rfl (lv_at hl 0 rfl) ?_
  refine lv_iload_n hx hb dX1_raiseByBeaters_14 rfl (lv_at hl 1 rfl) ?_
  refine Ce.callV (ct_X1_at l g (S.1 0) n x o sta dq sl bf hh i hl0 hn) X ht hL hl vb_X1_at q1559 (ob.recv hKV rfl) rfl rfl (Nat.le_of_ble_eq_true rfl) dX1_raiseByBeaters_15 ⟨Nat.le_of_ble_eq_true rfl, Nat.le_of_ble_eq_true rfl⟩ (by omega) (by omega) ⟨ob, hst⟩ (fun E1 H1 hx => ⟨Or.inl ⟨hx.1, s_raise_1 (by rw [hx.2.1]; rfl)⟩, hE.trans hx.2.2⟩) (fun r H locs hL hp => ?_)
  obtain ⟨hnb, rfl, hE1⟩ := hp
  have ob := ob.ext hE1
  have obs := obs.ext hE1
  have hsl := hsl.ext hE1
  have hst := hst.ext hE1
  have hbg := hbg.ext hE1
  have hsd := hsd.ext hE1
  have hof := hof.ext hE1
  have hbf := hbf.ext hE1
  have hdq := hdq.ext hE1
  have hE := hE.trans hE1
  obtain ⟨hic, hil⟩ := noB_nat hn hnb
  have hoi := hof _ (rng_mem hil)
  obtain ⟨I, hofi⟩ := id hoi
  refine lv_iload_n hx hb dX1_raiseByBeaters_18 rfl (lv_at hl 2 rfl) ?_
  refine W.stk (w := (nI q.toNatClampNeg)) hqc ?_
  refine Ct.callV (ct_X2_reckonedRaise l g (S.1 0) n x sta i.toNatClampNeg q.toNatClampNeg hn hw hR hil hql) X hL hl vb_X2_reckonedRaise q1759 (hst.recv hKV) rfl rfl (Nat.le_of_ble_eq_true rfl) dX1_raiseByBeaters_19 ⟨Nat.le_of_ble_eq_true rfl, Nat.le_of_ble_eq_true rfl⟩ (by omega) (by omega) hst (fun r H locs hL hp => ?_)
  obtain ⟨rfl, hE1⟩ := hp
  have ob := ob.ext hE1
  have obs := obs.ext hE1
  have hsl := hsl.ext hE1
  have hst := hst.ext hE1
  have hbg := hbg.ext hE1
  have hsd := hsd.ext hE1
  have hof := hof.ext hE1
  have hbf := hbf.ext hE1
  have hdq := hdq.ext hE1
  have hE := hE.trans hE1
  refine Ce.callS (ct_X1_told l g (if cB (S.1 0) i.toNatClampNeg && matB (mw (S.1 0)) q.toNatClampNeg then raI (S.1 0) n i.toNatClampNeg q.toNatClampNeg else (-1)) hl0) X ht hL hl sb_X1_told q1749 rfl rfl (Nat.le_of_ble_eq_true rfl) dX1_raiseByBeaters_22 ⟨Nat.le_of_ble_eq_true rfl, Nat.le_of_ble_eq_true rfl⟩ (by omega) (by omega) trivial (fun E1 H1 hx => ⟨Or.inr ⟨hx.1, s_raise_2 hnb hnq hx.2.1⟩, hE.trans hx.2.2⟩) (fun r H locs hL hp => ?_)
  obtain ⟨hv1, rfl, hE1⟩ := hp
  have hE := hE.trans hE1
  exact vx_ret (r_iret X hL rfl rfl dX1_raiseByBeaters_25 (by omega) (by omega) (OQ.q (s_raise_0 hnb hnq hv1) rfl hE))
theorem vb_X1_raiseByBeaters : VB yX1_raiseByBeaters cX1_raiseByBeaters 3 (some .int) 2 := ⟨q1756, q1757, q99, q1758, ⟨by decide, by decide, by decide +kernel⟩⟩

set_option maxRecDepth 100000 in
set_option maxHeartbeats 4000000 in
theorem ct_X1_reachByPairs (l : Launch) (g : GT) (F : Nat → Prop) (S : MS) (n st ln : Nat) (hf hs : Bool) (o : Nat) (a b : Int32) (hl0 : l.stackTraces = false) : Ce l g yX1_reachByPairs cX1_reachByPairs 3 (some .int) 15 11 153 [.ref o, .int a, .int b] (SkR g F S n st ln hf hs o) (OQ (s_reach S n a b)) (OX "java/lang/IndexOutOfBoundsException" "java/lang/IllegalArgumentException" (s_reach S n a b)) := by
  refine Ce.of (by decide) (Nat.le_of_ble_eq_true rfl) ?_
  intro p e s m args below meth c X ht hP ls hl
  have hx := X.1
  have hb := X.2.1
  have hKV := X.2.2.2.2.2.2.2.1.1
  have hL : ∀ q ∈ ([] : List Loc), gLo g ≤ q.base := fun _ h => by cases h
  obtain ⟨sta, dq, sl, bf, x, hh, PB, PD, xs, fs, ob, hst, hR, hn, hbf, hPB, hdq, hsl, hf0, hf1, loo⟩ := hP.v
  have hw := hR.w
  obtain ⟨sb, sd, PG, PS, obs, hbg, hsd, hof, hinj⟩ := id hst
  have hl : lv_has ls 3 [(0, .ref o), (1, .int a), (2, .int b)] := hl
  have hE : Ext s.heap s.heap := Ext.rfl'
  refine lv_iload_n hx hb dX1_reachByPairs_0 rfl (lv_at hl 1 rfl) ?_
  refine lv_iload_n hx hb dX1_reachByPairs_1 rfl (lv_at hl 2 rfl) ?_
  refine Cp.callS (v := .int (bI (!(noS a || noS b)))) (ct_X1_areSides l g a b ) X hL hl sb_X1_areSides q1803 rfl rfl (Nat.le_of_ble_eq_true rfl) dX1_reachByPairs_2 ⟨Nat.le_of_ble_eq_true rfl, Nat.le_of_ble_eq_true rfl⟩ (by omega) (by omega) trivial (fun locs hL => ?_)
  refine Ce.callS (ct_X1_requireIndex l g hl0 (!(noS a || noS b)) ) X ht hL hl sb_X1_requireIndex q1380 rfl rfl (Nat.le_of_ble_eq_true rfl) dX1_reachByPairs_5 ⟨Nat.le_of_ble_eq_true rfl, Nat.le_of_ble_eq_true rfl⟩ (by omega) (by omega) trivial (fun E1 H1 hx => ⟨Or.inl ⟨hx.1, s_reach_1 (not_t hx.2.1)⟩, hE.trans hx.2.2⟩) (fun r H locs hL hp => ?_)
  obtain ⟨rfl, hHH, hc⟩ := hp
  subst hHH
  have hc : (noS a || noS b) = false := not_f hc
  obtain ⟨hna, hnb⟩ := Bool.or_eq_false_iff.mp hc
  obtain ⟨hac, hal⟩ := noS_nat hna
  obtain ⟨hbc, hbl⟩ := noS_nat hnb
  refine lv_aload_n hx hb dX1_reachByPairs_8 rfl (lv_at hl 0 rfl) ?_
  refine r_get (C := RX1) (T := TX1) (N := 5) (ci := 1) X in_X1 rfl 0 (Nat.le_of_ble_eq_true rfl) q280 (fun _ h => h) ob rfl dX1_reachByPairs_9 ?_
  refine lv_iload_n hx hb dX1_reachByPairs_12 rfl (lv_at hl 1 rfl) ?_
  refine W.stk (w := (nI a.toNatClampNeg)) hac ?_
  refine lv_iload_n hx hb dX1_reachByPairs_13 rfl (lv_at hl 2 rfl) ?_
  refine W.stk (w := (nI b.toNatClampNeg)) hbc ?_
  refine Cp.callV (v := .int (bI (!decide (a.toNatClampNeg = b.toNatClampNeg) && (matB (mw (S.1 0)) a.toNatClampNeg && matB (mw (S.1 0)) b.toNatClampNeg)))) (ct_X2_canReach l g (S.1 0) n x sta a.toNatClampNeg b.toNatClampNeg hn hw hal hbl) X hL hl vb_X2_canReach q1273 (hst.recv hKV) rfl rfl (Nat.le_of_ble_eq_true rfl) dX1_reachByPairs_14 ⟨Nat.le_of_ble_eq_true rfl, Nat.le_of_ble_eq_true rfl⟩ (by omega) (by omega) hst (fun locs hL => ?_)
  refine Ce.callS (ct_X1_require l g hl0 (!decide (a.toNatClampNeg = b.toNatClampNeg) && (matB (mw (S.1 0)) a.toNatClampNeg && matB (mw (S.1 0)) b.toNatClampNeg)) ) X ht hL hl sb_X1_require q1323 rfl rfl (Nat.le_of_ble_eq_true rfl) dX1_reachByPairs_17 ⟨Nat.le_of_ble_eq_true rfl, Nat.le_of_ble_eq_true rfl⟩ (by omega) (by omega) trivial (fun E1 H1 hx => ⟨Or.inr ⟨hx.1, s_reach_2 hna hnb hx.2.1⟩, hE.trans hx.2.2⟩) (fun r H locs hL hp => ?_)
  obtain ⟨rfl, hHH, hcr⟩ := hp
  subst hHH
  refine lv_aload_n hx hb dX1_reachByPairs_20 rfl (lv_at hl 0 rfl) ?_
  refine r_get (C := RX1) (T := TX1) (N := 5) (ci := 1) X in_X1 rfl 0 (Nat.le_of_ble_eq_true rfl) q280 (fun _ h => h) ob rfl dX1_reachByPairs_21 ?_
  refine lv_iload_n hx hb dX1_reachByPairs_24 rfl (lv_at hl 1 rfl) ?_
  refine W.stk (w := (nI a.toNatClampNeg)) hac ?_
  refine lv_iload_n hx hb dX1_reachByPairs_25 rfl (lv_at hl 2 rfl) ?_
  refine W.stk (w := (nI b.toNatClampNeg)) hbc ?_
  refine Ct.callV (ct_X2_byAllPairs l g (S.1 0) n x sta a.toNatClampNeg b.toNatClampNeg hn hal hbl) X hL hl vb_X2_byAllPairs q1278 (hst.recv hKV) rfl rfl (Nat.le_of_ble_eq_true rfl) dX1_reachByPairs_26 ⟨Nat.le_of_ble_eq_true rfl, Nat.le_of_ble_eq_true rfl⟩ (by omega) (by omega) hst (fun r H locs hL hp => ?_)
  obtain ⟨rfl, hE1⟩ := hp
  have ob := ob.ext hE1
  have obs := obs.ext hE1
  have hsl := hsl.ext hE1
  have hst := hst.ext hE1
  have hbg := hbg.ext hE1
  have hsd := hsd.ext hE1
  have hof := hof.ext hE1
  have hbf := hbf.ext hE1
  have hdq := hdq.ext hE1
  have hE := hE.trans hE1
  exact vx_ret (r_iret X hL rfl rfl dX1_reachByPairs_29 (by omega) (by omega) (OQ.q (s_reach_0 hna hnb hcr) (v_i (prs_rea hR hal hbl)) hE))
theorem vb_X1_reachByPairs : VB yX1_reachByPairs cX1_reachByPairs 3 (some .int) 2 := ⟨q1800, q1801, q99, q1802, ⟨by decide, by decide, by decide +kernel⟩⟩

set_option maxRecDepth 100000 in
set_option maxHeartbeats 4000000 in
theorem ct_X1_reachBySteps (l : Launch) (g : GT) (F : Nat → Prop) (S : MS) (n st ln : Nat) (hf hs : Bool) (o : Nat) (a b : Int32) (hl0 : l.stackTraces = false) : Ce l g yX1_reachBySteps cX1_reachBySteps 3 (some .int) 15 11 153 [.ref o, .int a, .int b] (SkR g F S n st ln hf hs o) (OQ (s_reach S n a b)) (OX "java/lang/IndexOutOfBoundsException" "java/lang/IllegalArgumentException" (s_reach S n a b)) := by
  refine Ce.of (by decide) (Nat.le_of_ble_eq_true rfl) ?_
  intro p e s m args below meth c X ht hP ls hl
  have hx := X.1
  have hb := X.2.1
  have hKV := X.2.2.2.2.2.2.2.1.1
  have hL : ∀ q ∈ ([] : List Loc), gLo g ≤ q.base := fun _ h => by cases h
  obtain ⟨sta, dq, sl, bf, x, hh, PB, PD, xs, fs, ob, hst, hR, hn, hbf, hPB, hdq, hsl, hf0, hf1, loo⟩ := hP.v
  have hw := hR.w
  obtain ⟨sb, sd, PG, PS, obs, hbg, hsd, hof, hinj⟩ := id hst
  have hl : lv_has ls 3 [(0, .ref o), (1, .int a), (2, .int b)] := hl
  have hE : Ext s.heap s.heap := Ext.rfl'
  refine lv_iload_n hx hb dX1_reachBySteps_0 rfl (lv_at hl 1 rfl) ?_
  refine lv_iload_n hx hb dX1_reachBySteps_1 rfl (lv_at hl 2 rfl) ?_
  refine Cp.callS (v := .int (bI (!(noS a || noS b)))) (ct_X1_areSides l g a b ) X hL hl sb_X1_areSides q1803 rfl rfl (Nat.le_of_ble_eq_true rfl) dX1_reachBySteps_2 ⟨Nat.le_of_ble_eq_true rfl, Nat.le_of_ble_eq_true rfl⟩ (by omega) (by omega) trivial (fun locs hL => ?_)
  refine Ce.callS (ct_X1_requireIndex l g hl0 (!(noS a || noS b)) ) X ht hL hl sb_X1_requireIndex q1380 rfl rfl (Nat.le_of_ble_eq_true rfl) dX1_reachBySteps_5 ⟨Nat.le_of_ble_eq_true rfl, Nat.le_of_ble_eq_true rfl⟩ (by omega) (by omega) trivial (fun E1 H1 hx => ⟨Or.inl ⟨hx.1, s_reach_1 (not_t hx.2.1)⟩, hE.trans hx.2.2⟩) (fun r H locs hL hp => ?_)
  obtain ⟨rfl, hHH, hc⟩ := hp
  subst hHH
  have hc : (noS a || noS b) = false := not_f hc
  obtain ⟨hna, hnb⟩ := Bool.or_eq_false_iff.mp hc
  obtain ⟨hac, hal⟩ := noS_nat hna
  obtain ⟨hbc, hbl⟩ := noS_nat hnb
  refine lv_aload_n hx hb dX1_reachBySteps_8 rfl (lv_at hl 0 rfl) ?_
  refine r_get (C := RX1) (T := TX1) (N := 5) (ci := 1) X in_X1 rfl 0 (Nat.le_of_ble_eq_true rfl) q280 (fun _ h => h) ob rfl dX1_reachBySteps_9 ?_
  refine lv_iload_n hx hb dX1_reachBySteps_12 rfl (lv_at hl 1 rfl) ?_
  refine W.stk (w := (nI a.toNatClampNeg)) hac ?_
  refine lv_iload_n hx hb dX1_reachBySteps_13 rfl (lv_at hl 2 rfl) ?_
  refine W.stk (w := (nI b.toNatClampNeg)) hbc ?_
  refine Cp.callV (v := .int (bI (!decide (a.toNatClampNeg = b.toNatClampNeg) && (matB (mw (S.1 0)) a.toNatClampNeg && matB (mw (S.1 0)) b.toNatClampNeg)))) (ct_X2_canReach l g (S.1 0) n x sta a.toNatClampNeg b.toNatClampNeg hn hw hal hbl) X hL hl vb_X2_canReach q1273 (hst.recv hKV) rfl rfl (Nat.le_of_ble_eq_true rfl) dX1_reachBySteps_14 ⟨Nat.le_of_ble_eq_true rfl, Nat.le_of_ble_eq_true rfl⟩ (by omega) (by omega) hst (fun locs hL => ?_)
  refine Ce.callS (ct_X1_require l g hl0 (!decide (a.toNatClampNeg = b.toNatClampNeg) && (matB (mw (S.1 0)) a.toNatClampNeg && matB (mw (S.1 0)) b.toNatClampNeg)) ) X ht hL hl sb_X1_require q1323 rfl rfl (Nat.le_of_ble_eq_true rfl) dX1_reachBySteps_17 ⟨Nat.le_of_ble_eq_true rfl, Nat.le_of_ble_eq_true rfl⟩ (by omega) (by omega) trivial (fun E1 H1 hx => ⟨Or.inr ⟨hx.1, s_reach_2 hna hnb hx.2.1⟩, hE.trans hx.2.2⟩) (fun r H locs hL hp => ?_)
  obtain ⟨rfl, hHH, hcr⟩ := hp
  subst hHH
  refine lv_aload_n hx hb dX1_reachBySteps_20 rfl (lv_at hl 0 rfl) ?_
  refine r_get (C := RX1) (T := TX1) (N := 5) (ci := 1) X in_X1 rfl 0 (Nat.le_of_ble_eq_true rfl) q280 (fun _ h => h) ob rfl dX1_reachBySteps_21 ?_
  refine lv_iload_n hx hb dX1_reachBySteps_24 rfl (lv_at hl 1 rfl) ?_
  refine W.stk (w := (nI a.toNatClampNeg)) hac ?_
  refine lv_iload_n hx hb dX1_reachBySteps_25 rfl (lv_at hl 2 rfl) ?_
  refine W.stk (w := (nI b.toNatClampNeg)) hbc ?_
  refine Ct.callV (ct_X2_bySteps l g (S.1 0) n x sta a.toNatClampNeg b.toNatClampNeg hn hal hbl) X hL hl vb_X2_bySteps q1287 (hst.recv hKV) rfl rfl (Nat.le_of_ble_eq_true rfl) dX1_reachBySteps_26 ⟨Nat.le_of_ble_eq_true rfl, Nat.le_of_ble_eq_true rfl⟩ (by omega) (by omega) hst (fun r H locs hL hp => ?_)
  obtain ⟨rfl, hE1⟩ := hp
  have ob := ob.ext hE1
  have obs := obs.ext hE1
  have hsl := hsl.ext hE1
  have hst := hst.ext hE1
  have hbg := hbg.ext hE1
  have hsd := hsd.ext hE1
  have hof := hof.ext hE1
  have hbf := hbf.ext hE1
  have hdq := hdq.ext hE1
  have hE := hE.trans hE1
  exact vx_ret (r_iret X hL rfl rfl dX1_reachBySteps_29 (by omega) (by omega) (OQ.q (s_reach_0 hna hnb hcr) (v_i (st_rea _ _ _ _ _)) hE))
theorem vb_X1_reachBySteps : VB yX1_reachBySteps cX1_reachBySteps 3 (some .int) 2 := ⟨q1810, q1811, q99, q1812, ⟨by decide, by decide, by decide +kernel⟩⟩

set_option maxRecDepth 100000 in
set_option maxHeartbeats 4000000 in
theorem ct_X1_firstError (l : Launch) (g : GT) (F : Nat → Prop) (S : MS) (n st ln : Nat) (hf hs : Bool) (o : Nat)  : Ct l g yX1_firstError cX1_firstError 3 (some .int) 11 2 9 [.ref o] (SkR g F S n st ln hf hs o) (OQ (s_fe S ln)) := by
  refine Ct.of (by decide) (Nat.le_of_ble_eq_true rfl) ?_
  intro p e s m args below meth c X hP ls hl
  have hx := X.1
  have hb := X.2.1
  have hKV := X.2.2.2.2.2.2.2.1.1
  have hL : ∀ q ∈ ([] : List Loc), gLo g ≤ q.base := fun _ h => by cases h
  obtain ⟨sta, dq, sl, bf, x, hh, PB, PD, xs, fs, ob, hst, hR, hn, hbf, hPB, hdq, hsl, hf0, hf1, loo⟩ := hP.v
  have hw := hR.w
  obtain ⟨sb, sd, PG, PS, obs, hbg, hsd, hof, hinj⟩ := id hst
  have hl : lv_has ls 3 [(0, .ref o)] := hl
  have hE : Ext s.heap s.heap := Ext.rfl'
  have hol := ob.lt
  obtain ⟨b1, hb1⟩ : ∃ b, s.heap.size = b := ⟨_, rfl⟩
  have sz_b1 : s.heap.size ≤ b1 := by rw [← hb1]; exact Nat.le_refl _
  have lo_b1 : gLo g ≤ b1 := Nat.le_trans X.2.2.2.2.2.2.2.1.2.1 sz_b1
  have ne_o_b1 : o ≠ b1 := Nat.ne_of_lt (by rw [← hb1]; exact ob.lt)
  have ne_sta_b1 : sta ≠ b1 := Nat.ne_of_lt (by rw [← hb1]; exact obs.lt)
  have ne_sl_b1 : sl ≠ b1 := Nat.ne_of_lt (by rw [← hb1]; exact hsl.lt)
  refine r_new (C := RX7) (T := TX7) (N := 5) (ci := 6) X in_X7 tyX7 tyX7_ok q901 q902 q130 rfl (fs := [.int 0, .int 0, .int 0, .null, .null]) (fun j hj => by rcases j with _ | _ | _ | _ | _ | j <;> first | rfl | omega) (by show _ + 1 ≤ 2; omega) (by show _ + 5 ≤ 9; omega) dX1_firstError_0 (fun H ha_b1 hE_b1 hz_b1 => ?_)
  rw [hb1] at ha_b1 hz_b1 ⊢
  have ob := ob.ext hE_b1
  have obs := obs.ext hE_b1
  have hsl := hsl.ext hE_b1
  have hst := hst.ext hE_b1
  have hbg := hbg.ext hE_b1
  have hsd := hsd.ext hE_b1
  have hof := hof.ext hE_b1
  have hbf := hbf.ext hE_b1
  have hdq := hdq.ext hE_b1
  have hE := hE.trans hE_b1
  refine lv_dup hx hb dX1_firstError_3 rfl ?_
  refine lv_aload_n hx hb dX1_firstError_4 rfl (lv_at hl 0 rfl) ?_
  refine Ct.callIN (ct_X7_init l g b1 o lo_b1) X hL hl ib_X7_init q903 rfl rfl (Nat.le_of_ble_eq_true rfl) dX1_firstError_5 ⟨Nat.le_of_ble_eq_true rfl, Nat.le_of_ble_eq_true rfl⟩ (by omega) (by omega) ha_b1 (fun r H locs hL hp => ?_)
  obtain ⟨rfl, ⟨ta, ha_b1, hta, htz⟩, hC1⟩ := hp
  have hzb := hz_b1
  have ob := ob.chg hC1 (by omega)
  have hbf := hbf.keep hC1 (fun q hq y => by have := (hPB q hq).1; omega)
  have hE := hE.chgx hC1 (fun q hq => hq.elim (fun y => y ▸ sz_b1) (fun y => Nat.le_trans hE.1 y))
  have hF : RdF g PB b1 ta o := ⟨lo_b1, by omega, by omega, by omega, by omega, fun y => by have := (hPB _ y).1; omega, fun y => by have := (hPB _ y).1; omega⟩
  refine lv_astore_n (lv' := [(1, .ref _), (0, .ref _)]) hx hb dX1_firstError_8 rfl hl (by decide) rfl (fun ls hl => ?_)
  refine lv_aload_n hx hb dX1_firstError_9 rfl (lv_at hl 0 rfl) ?_
  refine Ct.callV (ct_X7_isWhole l g PB (S.1 4) ln 0 0 0 (fun _ => 0) b1 ta o sta dq sl bf hh hF (Nat.zero_le _)) X hL hl vb_X7_isWhole q924 (ha_b1.recv hKV rfl) rfl rfl (Nat.le_of_ble_eq_true rfl) dX1_firstError_10 ⟨Nat.le_of_ble_eq_true rfl, Nat.le_of_ble_eq_true rfl⟩ (by omega) (by omega) ⟨ha_b1, hta, ob, hbf⟩ (fun r H locs hL hp => ?_)
  obtain ⟨rfl, ⟨w1, sd1, tf1, ha_b1, -⟩, hC1⟩ := hp
  have hE := hE.chgx hC1 (fun q hq => hq.elim (fun y => y ▸ sz_b1) (fun y => by omega))
  refine lv_istore_n (lv' := [(2, .int _), (1, .ref _), (0, .ref _)]) hx hb dX1_firstError_13 rfl hl (by decide) rfl (fun ls hl => ?_)
  refine lv_aload_n hx hb dX1_firstError_14 rfl (lv_at hl 1 rfl) ?_
  refine r_getN (C := RX7) (T := TX7) (N := 5) (ci := 6) X in_X7 rfl 0 (Nat.le_of_ble_eq_true rfl) q908 (fun _ h => h) ha_b1 rfl dX1_firstError_15 ?_
  exact r_iret X hL rfl rfl dX1_firstError_18 (by omega) (by omega) (OQ.q rfl (v_i (fau_at hbf.chr.1)) hE)
theorem vb_X1_firstError : VB yX1_firstError cX1_firstError 3 (some .int) 0 := ⟨q898, q899, q99, q900, ⟨by decide, by decide, by decide +kernel⟩⟩
