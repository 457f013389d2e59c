/-! the list: its growing -/
theorem nI_shr1 {n : Nat} (hn : n < 2 ^ 30) : nI n >>> (nI 1 &&& 31) = nI (n / 2) := by
  apply Int32.toInt_inj.mp
  rw [pk_shr _ _ 1 (by decide), nI_toInt (by omega), nI_toInt (by omega), Int.shiftRight_eq_div_pow]
  omega

set_option maxRecDepth 100000 in
set_option maxHeartbeats 4000000 in
theorem ct_J17_copyOf (l : Launch) (g : GT) (a n0 N1 : Nat) (f : Nat → Option Nat) (hn : n0 ≤ N1) (hN : N1 ≤ 2000) : Ct l g yJ17_copyOf cJ17_copyOf 2 (some (.array (.object "java/lang/Object"))) 3 1 N1 [.ref a, .int (nI N1)] (fun H => Aq g a 4 n0 f H ∧ ∀ j, j < n0 → ∀ y, f j = some y → ∃ (ci : Nat) (fs : List Value) (r : vw_C), Ob g y ci fs H ∧ vwCl[ci]? = some r ∧ Cond.castable r.1 "java/lang/Object" ∈ lw_tbl) (fun r H H1 => r = some (.ref H.size) ∧ Aq g H.size 4 N1 (va_cpy f (fun _ => none) 0 0 n0) H1 ∧ Ext H H1 ∧ H1.size = H.size + 1) := by
  refine Ct.of (by decide) (Nat.le_of_ble_eq_true rfl) ?_
  intro p e s m args below meth c X hP ls hl
  have hx := X.1
  have hb := X.2.1
  have hKV := X.2.2.2.2.2.2.2.1.1
  have hL : ∀ q ∈ ([] : List Loc), gLo g ≤ q.base := fun _ h => by cases h
  obtain ⟨aq, hel⟩ := hP
  have hl : lv_has ls 2 [(0, .ref a), (1, .int (nI N1))] := hl
  refine lv_aload_n hx hb dJ17_copyOf_0 rfl (lv_at hl 0 rfl) ?_
  refine lv_iload_n hx hb dJ17_copyOf_1 rfl (lv_at hl 1 rfl) ?_
  refine lv_aload_n hx hb dJ17_copyOf_2 rfl (lv_at hl 0 rfl) ?_
  refine va_getC (C := "[Ljava/lang/Object;") hx hb (X.2.2.1.trans hl.1.symm) X.2.2.2.1 (X.2.2.2.2.1 _ q389) (va_Dc.use hKV.2.2.2.2.2.2.2.2.2.2.1) (X.2.2.2.2.1 _ q2334) (X.2.2.2.2.1 _ q390) (X.2.2.2.2.1 _ q408) hKV.2.2.2.2.2.2.2.2.2.1 (aq.recvA hKV) (Nat.le_of_ble_eq_true rfl) (Nat.le_of_ble_eq_true rfl) dJ17_copyOf_3 ?_
  refine Ct.callS (ct_J17_copyOf_2 l g a n0 N1 f hn hN) X hL hl sb_J17_copyOf_2 q409 rfl rfl (Nat.le_of_ble_eq_true rfl) dJ17_copyOf_6 ⟨Nat.le_of_ble_eq_true rfl, Nat.le_of_ble_eq_true rfl⟩ (by omega) (by omega) ⟨aq, hel⟩ (fun r H locs hL hp => ?_)
  obtain ⟨rfl, aq2, hE, hz⟩ := hp
  exact r_aret X hL rfl (Or.inr ⟨_, rfl⟩) (Or.inr ⟨_, rfl⟩) dJ17_copyOf_9 (by omega) (by omega) ⟨rfl, aq2, hE, hz⟩
theorem sb_J17_copyOf : SB yJ17_copyOf cJ17_copyOf 2 (some (.array (.object "java/lang/Object"))) 2 := ⟨q387, q121, q388, ⟨by decide, by decide, by decide +kernel⟩⟩

set_option maxRecDepth 100000 in
set_option maxHeartbeats 4000000 in
theorem ct_J2_grow_2 (l : Launch) (g : GT) (P : Nat → Prop) (n a : Nat) (mc : Int32) (ar : Nat) (f : Nat → Option Nat) (hn : n ≤ 60) (p1 : P a) (l1 : gLo g ≤ a) (hne : a ≠ ar) (he : 0 < n ∨ ar = gE g) : Ct l g yJ2_grow_2 cJ2_grow_2 4 (some (.array (.object "java/lang/Object"))) 4 1 (nxC n) [.ref a, .int (nI (n + 1))] (fun H => (Ob g a 7 [.int mc, .ref ar, .int (nI n)] H ∧ Aq g ar 4 n f H ∧ ∀ j, j < n → ∀ y, f j = some y → ∃ (ci : Nat) (fs : List Value) (r : vw_C), Ob g y ci fs H ∧ vwCl[ci]? = some r ∧ Cond.castable r.1 "java/lang/Object" ∈ lw_tbl) ∧ ∀ q, H.size ≤ q → P q) (fun r H H1 => ∃ (b : Nat) (f1 : Nat → Option Nat), (Ob g a 7 [.int mc, .ref b, .int (nI n)] H1 ∧ Aq g b 4 (nxC n) f1 H1 ∧ (∀ j, j < n → f1 j = f j) ∧ P b ∧ gLo g ≤ b ∧ a ≠ b) ∧ r = some (.ref b) ∧ Chg P H H1) := by
  refine Ct.of (by decide) (Nat.le_of_ble_eq_true rfl) ?_
  intro p e s m args below meth c X hP ls hl
  have hx := X.1
  have hb := X.2.1
  have hKV := X.2.2.2.2.2.2.2.1.1
  have hL : ∀ q ∈ ([] : List Loc), gLo g ≤ q.base := fun _ h => by cases h
  obtain ⟨⟨ob, aq, hel⟩, hPn⟩ := hP
  have hl : lv_has ls 4 [(0, .ref a), (1, .int (nI (n + 1)))] := hl
  have hC : Chg P s.heap s.heap := Chg.rfl'
  have hlo2 : gLo g ≤ s.heap.size := X.2.2.2.2.2.2.2.1.2.1
  refine lv_aload_n hx hb dJ2_grow_2_0 rfl (lv_at hl 0 rfl) ?_
  refine r_get (C := RJ2) (T := TJ2) (N := 3) (ci := 7) X in_J2 rfl 1 (Nat.le_of_ble_eq_true rfl) q166 (fun _ h => h) ob rfl dJ2_grow_2_1 ?_
  refine r_lenq (k := 4) (v := nI n) X aq rfl rfl dJ2_grow_2_4 ?_
  refine lv_istore_n (lv' := [(2, .int _), (0, .ref _), (1, .int _)]) hx hb dJ2_grow_2_5 rfl hl (by decide) rfl (fun ls hl => ?_)
  refine lv_iload_n hx hb dJ2_grow_2_6 rfl (lv_at hl 0 rfl) ?_
  refine n_ifgt (tgt := 20) X dJ2_grow_2_7 (by decide) (by omega) (fun c_7 => ?_) (fun c_7 => ?_)
  ·
    refine lv_iload_n hx hb dJ2_grow_2_20 rfl (lv_at hl 0 rfl) ?_
    refine lv_iload_n hx hb dJ2_grow_2_21 rfl (lv_at hl 2 rfl) ?_
    refine lv_iload_n hx hb dJ2_grow_2_22 rfl (lv_at hl 0 rfl) ?_
    refine n_isub X (by omega) dJ2_grow_2_23 ?_
    refine lv_iload_n hx hb dJ2_grow_2_24 rfl (lv_at hl 0 rfl) ?_
    refine lv_iconst (v := nI 1) hx hb dJ2_grow_2_25 (by decide) ?_
    refine lv_ishr hx hb dJ2_grow_2_26 ?_
    refine W.stk (w := (nI (n / 2))) (nI_shr1 (by omega)) ?_
    refine Cp.callS (v := .int (nI (n + max (n + 1 - n) (n / 2)))) (ct_J15_newLength l g n (n + 1 - n) (n / 2) (by omega) (by omega) (by omega) (by omega)) X hL hl sb_J15_newLength q376 rfl rfl (Nat.le_of_ble_eq_true rfl) dJ2_grow_2_27 ⟨Nat.le_of_ble_eq_true rfl, Nat.le_of_ble_eq_true rfl⟩ (by omega) (by omega) trivial (fun locs hL => ?_)
    refine W.stk (w := (nI (nxC n))) (by rw [nxC, if_neg (by omega), show n + 1 - n = 1 by omega]) ?_
    refine lv_istore_n (lv' := [(3, .int _), (2, .int _), (0, .ref _), (1, .int _)]) hx hb dJ2_grow_2_30 rfl hl (by decide) rfl (fun ls hl => ?_)
    refine lv_aload_n hx hb dJ2_grow_2_31 rfl (lv_at hl 2 rfl) ?_
    refine lv_aload_n hx hb dJ2_grow_2_32 rfl (lv_at hl 2 rfl) ?_
    refine r_get (C := RJ2) (T := TJ2) (N := 3) (ci := 7) X in_J2 rfl 1 (Nat.le_of_ble_eq_true rfl) q166 (fun _ h => h) ob rfl dJ2_grow_2_33 ?_
    refine lv_iload_n hx hb dJ2_grow_2_36 rfl (lv_at hl 0 rfl) ?_
    have hnx : n ≤ nxC n ∧ nxC n ≤ 1000 := by unfold nxC; split <;> omega
    obtain ⟨b1, hb1⟩ : ∃ b, s.heap.size = b := ⟨_, rfl⟩
    have ne_a_b1 : a ≠ b1 := Nat.ne_of_lt (by rw [← hb1]; exact ob.lt)
    have lo_b1 : gLo g ≤ b1 := hb1 ▸ hlo2
    have p_b1 : P b1 := hPn b1 (Nat.le_of_eq hb1)
    refine Ct.callS (ct_J17_copyOf l g ar n (nxC n) f hnx.1 (by omega)) X hL hl sb_J17_copyOf q386 rfl rfl (Nat.le_of_ble_eq_true rfl) dJ2_grow_2_37 ⟨Nat.le_of_ble_eq_true rfl, Nat.le_of_ble_eq_true rfl⟩ (by omega) (by omega) ⟨aq, hel⟩ (fun r H locs hL hp => ?_)
    obtain ⟨rfl, aq2, hE, hz⟩ := hp
    rw [hb1] at aq2 hz ⊢
    have ob := ob.ext hE
    have aq := aq.ext hE
    have hC := hC.trans hE.chg
    refine lv_dup_x1 hx hb dJ2_grow_2_40 rfl rfl ?_
    refine r_put (C := RJ2) (T := TJ2) (N := 3) (ci := 7) X in_J2 tyJ2 tyJ2_ok nmJ2 rfl 1 (Nat.le_of_ble_eq_true rfl) q166 (fun _ h => h) rfl hL ob l1 rfl rfl (Nat.le_of_ble_eq_true rfl) dJ2_grow_2_41 (fun H locs hL h1 h2 => ?_)
    have ob : Ob g a 7 [.int mc, .ref b1, .int (nI n)] H := h1
    have aq := aq.on h2 (Ne.symm hne)
    have aq2 := aq2.on h2 (Ne.symm ne_a_b1)
    have hC := hC.trans (h2.chg p1)
    exact r_aret X hL rfl (Or.inr ⟨_, rfl⟩) (Or.inr ⟨_, rfl⟩) dJ2_grow_2_44 (by omega) (by omega) ⟨b1, _, ⟨ob, aq2, fun j hj => by simp [va_cpy, hj], p_b1, lo_b1, ne_a_b1⟩, rfl, hC⟩
  ·
    refine lv_aload_n hx hb dJ2_grow_2_10 rfl (lv_at hl 1 rfl) ?_
    refine r_get (C := RJ2) (T := TJ2) (N := 3) (ci := 7) X in_J2 rfl 1 (Nat.le_of_ble_eq_true rfl) q166 (fun _ h => h) ob rfl dJ2_grow_2_11 ?_
    refine r_gs X hL hKV.2.2.2.2.1 q164 (fun _ h => h) dJ2_grow_2_14 ?_
    refine lv_acmp_eq (rx := some (ar)) (ry := some (gE g)) (tgt := 45) hx hb dJ2_grow_2_17 (by decide) (fun c_17 => ?_) (fun c_17 => ?_)
    ·
      refine lv_aload_n hx hb dJ2_grow_2_45 rfl (lv_at hl 1 rfl) ?_
      refine lv_bipush (v := nI 10) hx hb dJ2_grow_2_46 (by decide) ?_
      refine lv_iload_n hx hb dJ2_grow_2_48 rfl (lv_at hl 2 rfl) ?_
      refine va_mmax hx hb (X.2.2.1.trans hl.1.symm) X.2.2.2.1 (X.2.2.2.2.1 _ q420) (X.2.2.2.2.1 _ q380) (X.2.2.2.2.1 _ q120) (X.2.2.2.2.1 _ q381) (Nat.le_of_ble_eq_true rfl) (Nat.le_of_ble_eq_true rfl) (by show 0 ≤ 1; omega) (by show 0 ≤ (nxC n); omega) dJ2_grow_2_49 ?_
      refine W.stk (w := mxI (nI 10) (nI (n + 1))) rfl ?_
      refine W.stk (w := (nI 10)) ((mxI_n (by omega) (by omega)).trans (by rw [show n = 0 by omega]; rfl)) ?_
      have hnx : 10 ≤ nxC n := by unfold nxC; split <;> omega
      obtain ⟨b1, hb1⟩ : ∃ b, s.heap.size = b := ⟨_, rfl⟩
      have sz_b1 : s.heap.size ≤ b1 := by rw [← hb1]; exact Nat.le_refl _
      have lo_b1 : gLo g ≤ b1 := Nat.le_trans X.2.2.2.2.2.2.2.1.2.1 sz_b1
      have p_b1 : P b1 := hPn b1 sz_b1
      have ne_a_b1 : a ≠ b1 := Nat.ne_of_lt (by rw [← hb1]; exact ob.lt)
      have ne_ar_b1 : ar ≠ b1 := Nat.ne_of_lt (by rw [← hb1]; exact aq.lt)
      refine r_newq (k := 4) (N' := 10) X q421 q235 rfl (nI_pos (by omega)) (nI_clamp (by omega)) (by omega) (by show 0 + 1 ≤ 1; omega) (by show 0 + 10 ≤ (nxC n); omega) dJ2_grow_2_52 (fun H ha_b1 hE_b1 hz_b1 => ?_)
      rw [hb1] at ha_b1 hz_b1 ⊢
      have ob := ob.ext hE_b1
      have aq := aq.ext hE_b1
      have hC := hC.trans hE_b1.chg
      refine lv_dup_x1 hx hb dJ2_grow_2_55 rfl rfl ?_
      refine r_put (C := RJ2) (T := TJ2) (N := 3) (ci := 7) X in_J2 tyJ2 tyJ2_ok nmJ2 rfl 1 (Nat.le_of_ble_eq_true rfl) q166 (fun _ h => h) rfl hL ob l1 rfl rfl (Nat.le_of_ble_eq_true rfl) dJ2_grow_2_56 (fun H locs hL h1 h2 => ?_)
      have ob : Ob g a 7 [.int mc, .ref b1, .int (nI n)] H := h1
      have aq := aq.on h2 (Ne.symm hne)
      have ha_b1 := ha_b1.on h2 (Ne.symm ne_a_b1)
      have hC := hC.trans (h2.chg p1)
      have n0 : n = 0 := by omega
      subst n0
      exact r_aret X hL rfl (Or.inr ⟨_, rfl⟩) (Or.inr ⟨_, rfl⟩) dJ2_grow_2_59 (by omega) (by omega) ⟨b1, _, ⟨ob, ha_b1, fun j hj => absurd hj (Nat.not_lt_zero _), p_b1, lo_b1, ne_a_b1⟩, rfl, hC⟩
    ·
      exact absurd (congrArg some (he.resolve_left (by omega))) c_17
theorem vb_J2_grow_2 : VB yJ2_grow_2 cJ2_grow_2 4 (some (.array (.object "java/lang/Object"))) 1 := ⟨q374, qs3, q104, q375, ⟨by decide, by decide, by decide +kernel⟩⟩
