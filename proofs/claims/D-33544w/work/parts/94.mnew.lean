/-! the model made -/
def r0k (k : Nat) : Nat → Int32 := fun j => if 169 ≤ j ∧ j < 169 + k then nI 99 else if 173 ≤ j ∧ j < 173 + k then nI 1 else nI 0
theorem r0k_0 : r0k 0 = fun _ => 0 := by
  funext j; unfold r0k; rw [if_neg (by omega), if_neg (by omega)]; rfl
theorem r0k_4 : r0k 4 = row0 := rfl
theorem r0k_s (k : Nat) (h : k < 4) : upd (upd (r0k k) (169 + k) (nI 99)) (173 + k) (nI 1) = r0k (k + 1) := by
  funext j
  simp only [upd, r0k]
  (repeat' split) <;> first | rfl | (exfalso; omega)

set_option maxRecDepth 100000 in
set_option maxHeartbeats 4000000 in
theorem ct_X5_init (l : Launch) (g : GT) (o : Nat) (l1 : gLo g ≤ o) : Ct l g yX5_init cX5_init 2 none 2 9 2011 [.ref o] (fun H => Ob g o 0 [.null, .null, .null, .null, .null, .null, .null, .null, .null, .int (nI 0), .int (nI 0), .int (nI 0), .int (nI 0), .int (nI 0), .int (nI 0), .int (nI 0), .long 0] H ∧ H.size = o + 1) (fun r H H1 => r = none ∧ MW g o S00 H1 ∧ H1.size = o + 10 ∧ Chg (fun q => o ≤ q) H H1) := by
  refine Ct.of (by decide) (Nat.le_of_ble_eq_true rfl) ?_
  intro p e s m args below meth c X hP ls hl
  have hx := X.1
  have hb := X.2.1
  have hKV := X.2.2.2.2.2.2.2.1.1
  have hL : ∀ q ∈ ([] : List Loc), gLo g ≤ q.base := fun _ h => by cases h
  obtain ⟨ob, z0⟩ := hP
  have hl : lv_has ls 2 [(0, .ref o)] := hl
  have hC : Chg (fun q => o ≤ q) s.heap s.heap := Chg.rfl'
  refine lv_aload_n hx hb dX5_init_0 rfl (lv_at hl 0 rfl) ?_
  refine W.objInit hx hb X.2.2.2.1 (X.2.2.2.2.1 _ q1818) (X.2.2.2.2.1 _ q138) (X.2.2.2.2.1 _ q139) rfl (hl.1.trans X.2.2.1.symm) rfl dX5_init_1 (Nat.le_of_ble_eq_true rfl) (Nat.le_of_ble_eq_true rfl) ?_
  refine lv_aload_n hx hb dX5_init_4 rfl (lv_at hl 0 rfl) ?_
  refine lv_sipush (v := nI 179) hx hb dX5_init_5 (by decide) ?_
  obtain ⟨b1, hb1⟩ : ∃ b, s.heap.size = b := ⟨_, rfl⟩
  have sz_b1 : s.heap.size ≤ b1 := by rw [← hb1]; exact Nat.le_refl _
  have lo_b1 : gLo g ≤ b1 := Nat.le_trans X.2.2.2.2.2.2.2.1.2.1 sz_b1
  have p_b1 : (fun q => o ≤ q) b1 := (fun q hq => Nat.le_trans (by omega) hq : ∀ q, s.heap.size ≤ q → o ≤ q) b1 sz_b1
  have ne_o_b1 : o ≠ b1 := Nat.ne_of_lt (by rw [← hb1]; exact ob.lt)
  refine r_newa (atype := .int) (k := 0) (ty := .int) X q209 rfl rfl (fun _ _ => rfl) (x := (nI 179)) (N' := 179) (179, .inl (fun _ => 0)) (fun _ => rfl) (nI_pos (by omega)) (nI_clamp (by omega)) (by show 179 * 4 ≤ 536870912; omega) (by show _ + 1 ≤ 9; omega) (by show _ + 179 ≤ 2011; omega) dX5_init_8 (fun H ha_b1 hE_b1 hz_b1 => ?_)
  rw [hb1] at ha_b1 hz_b1 ⊢
  have ob := ob.ext hE_b1
  have hC := hC.trans hE_b1.chg
  have ha_b1 : Ar g b1 0 179 (fun _ => 0) H := ha_b1
  have e_b1 : b1 = o + 1 := by omega
  have z1 : H.size = o + 2 := by omega
  refine r_putF (C := RX5) (T := TX5) (N := 17) (ci := 0) X in_X5 tyX5 tyX5_ok nmX5 rfl 0 (Nat.le_of_ble_eq_true rfl) q1819 (fun _ h => h) rfl rfl rfl hL ob l1 rfl rfl (Nat.le_of_ble_eq_true rfl) dX5_init_10 (fun H locs hL h1 h2 => ?_)
  have ob : Ob g o 0 [.ref b1, .null, .null, .null, .null, .null, .null, .null, .null, .int (nI 0), .int (nI 0), .int (nI 0), .int (nI 0), .int (nI 0), .int (nI 0), .int (nI 0), .long 0] H := h1
  have ha_b1 := ha_b1.on h2 (Ne.symm ne_o_b1)
  have hC := hC.trans (h2.chg (Nat.le_refl _))
  have z1 : H.size = o + 2 := by rw [h2.1]; exact z1
  refine lv_aload_n hx hb dX5_init_13 rfl (lv_at hl 0 rfl) ?_
  refine lv_sipush (v := nI 179) hx hb dX5_init_14 (by decide) ?_
  obtain ⟨b2, hb2⟩ : ∃ b, H.size = b := ⟨_, rfl⟩
  have sz_b2 : s.heap.size ≤ b2 := by rw [← hb2]; exact hC.1
  have lo_b2 : gLo g ≤ b2 := Nat.le_trans X.2.2.2.2.2.2.2.1.2.1 sz_b2
  have p_b2 : (fun q => o ≤ q) b2 := (fun q hq => Nat.le_trans (by omega) hq : ∀ q, s.heap.size ≤ q → o ≤ q) b2 sz_b2
  have ne_o_b2 : o ≠ b2 := Nat.ne_of_lt (by rw [← hb2]; exact ob.lt)
  have ne_b1_b2 : b1 ≠ b2 := Nat.ne_of_lt (by rw [← hb2]; exact ha_b1.lt)
  refine r_newa (atype := .int) (k := 0) (ty := .int) X q209 rfl rfl (fun _ _ => rfl) (x := (nI 179)) (N' := 179) (179, .inl (fun _ => 0)) (fun _ => rfl) (nI_pos (by omega)) (nI_clamp (by omega)) (by show 179 * 4 ≤ 536870912; omega) (by show _ + 1 ≤ 9; omega) (by show _ + 179 ≤ 2011; omega) dX5_init_17 (fun H ha_b2 hE_b2 hz_b2 => ?_)
  rw [hb2] at ha_b2 hz_b2 ⊢
  have ob := ob.ext hE_b2
  have ha_b1 := ha_b1.ext hE_b2
  have hC := hC.trans hE_b2.chg
  have ha_b2 : Ar g b2 0 179 (fun _ => 0) H := ha_b2
  have e_b2 : b2 = o + 2 := by omega
  have z2 : H.size = o + 3 := by omega
  refine r_putF (C := RX5) (T := TX5) (N := 17) (ci := 0) X in_X5 tyX5 tyX5_ok nmX5 rfl 1 (Nat.le_of_ble_eq_true rfl) q1820 (fun _ h => h) rfl rfl rfl hL ob l1 rfl rfl (Nat.le_of_ble_eq_true rfl) dX5_init_19 (fun H locs hL h1 h2 => ?_)
  have ob : Ob g o 0 [.ref b1, .ref b2, .null, .null, .null, .null, .null, .null, .null, .int (nI 0), .int (nI 0), .int (nI 0), .int (nI 0), .int (nI 0), .int (nI 0), .int (nI 0), .long 0] H := h1
  have ha_b1 := ha_b1.on h2 (Ne.symm ne_o_b1)
  have ha_b2 := ha_b2.on h2 (Ne.symm ne_o_b2)
  have hC := hC.trans (h2.chg (Nat.le_refl _))
  have z2 : H.size = o + 3 := by rw [h2.1]; exact z2
  refine lv_aload_n hx hb dX5_init_22 rfl (lv_at hl 0 rfl) ?_
  refine lv_sipush (v := nI 1074) hx hb dX5_init_23 (by decide) ?_
  obtain ⟨b3, hb3⟩ : ∃ b, H.size = b := ⟨_, rfl⟩
  have sz_b3 : s.heap.size ≤ b3 := by rw [← hb3]; exact hC.1
  have lo_b3 : gLo g ≤ b3 := Nat.le_trans X.2.2.2.2.2.2.2.1.2.1 sz_b3
  have p_b3 : (fun q => o ≤ q) b3 := (fun q hq => Nat.le_trans (by omega) hq : ∀ q, s.heap.size ≤ q → o ≤ q) b3 sz_b3
  have ne_o_b3 : o ≠ b3 := Nat.ne_of_lt (by rw [← hb3]; exact ob.lt)
  have ne_b1_b3 : b1 ≠ b3 := Nat.ne_of_lt (by rw [← hb3]; exact ha_b1.lt)
  have ne_b2_b3 : b2 ≠ b3 := Nat.ne_of_lt (by rw [← hb3]; exact ha_b2.lt)
  refine r_newa (atype := .int) (k := 0) (ty := .int) X q209 rfl rfl (fun _ _ => rfl) (x := (nI 1074)) (N' := 1074) (1074, .inl (fun _ => 0)) (fun _ => rfl) (nI_pos (by omega)) (nI_clamp (by omega)) (by show 1074 * 4 ≤ 536870912; omega) (by show _ + 1 ≤ 9; omega) (by show _ + 1074 ≤ 2011; omega) dX5_init_26 (fun H ha_b3 hE_b3 hz_b3 => ?_)
  rw [hb3] at ha_b3 hz_b3 ⊢
  have ob := ob.ext hE_b3
  have ha_b1 := ha_b1.ext hE_b3
  have ha_b2 := ha_b2.ext hE_b3
  have hC := hC.trans hE_b3.chg
  have ha_b3 : Ar g b3 0 1074 (fun _ => 0) H := ha_b3
  have e_b3 : b3 = o + 3 := by omega
  have z3 : H.size = o + 4 := by omega
  refine r_putF (C := RX5) (T := TX5) (N := 17) (ci := 0) X in_X5 tyX5 tyX5_ok nmX5 rfl 2 (Nat.le_of_ble_eq_true rfl) q1821 (fun _ h => h) rfl rfl rfl hL ob l1 rfl rfl (Nat.le_of_ble_eq_true rfl) dX5_init_28 (fun H locs hL h1 h2 => ?_)
  have ob : Ob g o 0 [.ref b1, .ref b2, .ref b3, .null, .null, .null, .null, .null, .null, .int (nI 0), .int (nI 0), .int (nI 0), .int (nI 0), .int (nI 0), .int (nI 0), .int (nI 0), .long 0] H := h1
  have ha_b1 := ha_b1.on h2 (Ne.symm ne_o_b1)
  have ha_b2 := ha_b2.on h2 (Ne.symm ne_o_b2)
  have ha_b3 := ha_b3.on h2 (Ne.symm ne_o_b3)
  have hC := hC.trans (h2.chg (Nat.le_refl _))
  have z3 : H.size = o + 4 := by rw [h2.1]; exact z3
  refine lv_aload_n hx hb dX5_init_31 rfl (lv_at hl 0 rfl) ?_
  refine lv_sipush (v := nI 358) hx hb dX5_init_32 (by decide) ?_
  obtain ⟨b4, hb4⟩ : ∃ b, H.size = b := ⟨_, rfl⟩
  have sz_b4 : s.heap.size ≤ b4 := by rw [← hb4]; exact hC.1
  have lo_b4 : gLo g ≤ b4 := Nat.le_trans X.2.2.2.2.2.2.2.1.2.1 sz_b4
  have p_b4 : (fun q => o ≤ q) b4 := (fun q hq => Nat.le_trans (by omega) hq : ∀ q, s.heap.size ≤ q → o ≤ q) b4 sz_b4
  have ne_o_b4 : o ≠ b4 := Nat.ne_of_lt (by rw [← hb4]; exact ob.lt)
  have ne_b1_b4 : b1 ≠ b4 := Nat.ne_of_lt (by rw [← hb4]; exact ha_b1.lt)
  have ne_b2_b4 : b2 ≠ b4 := Nat.ne_of_lt (by rw [← hb4]; exact ha_b2.lt)
  have ne_b3_b4 : b3 ≠ b4 := Nat.ne_of_lt (by rw [← hb4]; exact ha_b3.lt)
  refine r_newa (atype := .int) (k := 0) (ty := .int) X q209 rfl rfl (fun _ _ => rfl) (x := (nI 358)) (N' := 358) (358, .inl (fun _ => 0)) (fun _ => rfl) (nI_pos (by omega)) (nI_clamp (by omega)) (by show 358 * 4 ≤ 536870912; omega) (by show _ + 1 ≤ 9; omega) (by show _ + 358 ≤ 2011; omega) dX5_init_35 (fun H ha_b4 hE_b4 hz_b4 => ?_)
  rw [hb4] at ha_b4 hz_b4 ⊢
  have ob := ob.ext hE_b4
  have ha_b1 := ha_b1.ext hE_b4
  have ha_b2 := ha_b2.ext hE_b4
  have ha_b3 := ha_b3.ext hE_b4
  have hC := hC.trans hE_b4.chg
  have ha_b4 : Ar g b4 0 358 (fun _ => 0) H := ha_b4
  have e_b4 : b4 = o + 4 := by omega
  have z4 : H.size = o + 5 := by omega
  refine r_putF (C := RX5) (T := TX5) (N := 17) (ci := 0) X in_X5 tyX5 tyX5_ok nmX5 rfl 3 (Nat.le_of_ble_eq_true rfl) q1822 (fun _ h => h) rfl rfl rfl hL ob l1 rfl rfl (Nat.le_of_ble_eq_true rfl) dX5_init_37 (fun H locs hL h1 h2 => ?_)
  have ob : Ob g o 0 [.ref b1, .ref b2, .ref b3, .ref b4, .null, .null, .null, .null, .null, .int (nI 0), .int (nI 0), .int (nI 0), .int (nI 0), .int (nI 0), .int (nI 0), .int (nI 0), .long 0] H := h1
  have ha_b1 := ha_b1.on h2 (Ne.symm ne_o_b1)
  have ha_b2 := ha_b2.on h2 (Ne.symm ne_o_b2)
  have ha_b3 := ha_b3.on h2 (Ne.symm ne_o_b3)
  have ha_b4 := ha_b4.on h2 (Ne.symm ne_o_b4)
  have hC := hC.trans (h2.chg (Nat.le_refl _))
  have z4 : H.size = o + 5 := by rw [h2.1]; exact z4
  refine lv_aload_n hx hb dX5_init_40 rfl (lv_at hl 0 rfl) ?_
  refine lv_bipush (v := nI 60) hx hb dX5_init_41 (by decide) ?_
  obtain ⟨b5, hb5⟩ : ∃ b, H.size = b := ⟨_, rfl⟩
  have sz_b5 : s.heap.size ≤ b5 := by rw [← hb5]; exact hC.1
  have lo_b5 : gLo g ≤ b5 := Nat.le_trans X.2.2.2.2.2.2.2.1.2.1 sz_b5
  have p_b5 : (fun q => o ≤ q) b5 := (fun q hq => Nat.le_trans (by omega) hq : ∀ q, s.heap.size ≤ q → o ≤ q) b5 sz_b5
  have ne_o_b5 : o ≠ b5 := Nat.ne_of_lt (by rw [← hb5]; exact ob.lt)
  have ne_b1_b5 : b1 ≠ b5 := Nat.ne_of_lt (by rw [← hb5]; exact ha_b1.lt)
  have ne_b2_b5 : b2 ≠ b5 := Nat.ne_of_lt (by rw [← hb5]; exact ha_b2.lt)
  have ne_b3_b5 : b3 ≠ b5 := Nat.ne_of_lt (by rw [← hb5]; exact ha_b3.lt)
  have ne_b4_b5 : b4 ≠ b5 := Nat.ne_of_lt (by rw [← hb5]; exact ha_b4.lt)
  refine r_newa (atype := .int) (k := 0) (ty := .int) X q209 rfl rfl (fun _ _ => rfl) (x := (nI 60)) (N' := 60) (60, .inl (fun _ => 0)) (fun _ => rfl) (nI_pos (by omega)) (nI_clamp (by omega)) (by show 60 * 4 ≤ 536870912; omega) (by show _ + 1 ≤ 9; omega) (by show _ + 60 ≤ 2011; omega) dX5_init_43 (fun H ha_b5 hE_b5 hz_b5 => ?_)
  rw [hb5] at ha_b5 hz_b5 ⊢
  have ob := ob.ext hE_b5
  have ha_b1 := ha_b1.ext hE_b5
  have ha_b2 := ha_b2.ext hE_b5
  have ha_b3 := ha_b3.ext hE_b5
  have ha_b4 := ha_b4.ext hE_b5
  have hC := hC.trans hE_b5.chg
  have ha_b5 : Ar g b5 0 60 (fun _ => 0) H := ha_b5
  have e_b5 : b5 = o + 5 := by omega
  have z5 : H.size = o + 6 := by omega
  refine r_putF (C := RX5) (T := TX5) (N := 17) (ci := 0) X in_X5 tyX5 tyX5_ok nmX5 rfl 4 (Nat.le_of_ble_eq_true rfl) q1823 (fun _ h => h) rfl rfl rfl hL ob l1 rfl rfl (Nat.le_of_ble_eq_true rfl) dX5_init_45 (fun H locs hL h1 h2 => ?_)
  have ob : Ob g o 0 [.ref b1, .ref b2, .ref b3, .ref b4, .ref b5, .null, .null, .null, .null, .int (nI 0), .int (nI 0), .int (nI 0), .int (nI 0), .int (nI 0), .int (nI 0), .int (nI 0), .long 0] H := h1
  have ha_b1 := ha_b1.on h2 (Ne.symm ne_o_b1)
  have ha_b2 := ha_b2.on h2 (Ne.symm ne_o_b2)
  have ha_b3 := ha_b3.on h2 (Ne.symm ne_o_b3)
  have ha_b4 := ha_b4.on h2 (Ne.symm ne_o_b4)
  have ha_b5 := ha_b5.on h2 (Ne.symm ne_o_b5)
  have hC := hC.trans (h2.chg (Nat.le_refl _))
  have z5 : H.size = o + 6 := by rw [h2.1]; exact z5
  refine lv_aload_n hx hb dX5_init_48 rfl (lv_at hl 0 rfl) ?_
  refine lv_bipush (v := nI 41) hx hb dX5_init_49 (by decide) ?_
  obtain ⟨b6, hb6⟩ : ∃ b, H.size = b := ⟨_, rfl⟩
  have sz_b6 : s.heap.size ≤ b6 := by rw [← hb6]; exact hC.1
  have lo_b6 : gLo g ≤ b6 := Nat.le_trans X.2.2.2.2.2.2.2.1.2.1 sz_b6
  have p_b6 : (fun q => o ≤ q) b6 := (fun q hq => Nat.le_trans (by omega) hq : ∀ q, s.heap.size ≤ q → o ≤ q) b6 sz_b6
  have ne_o_b6 : o ≠ b6 := Nat.ne_of_lt (by rw [← hb6]; exact ob.lt)
  have ne_b1_b6 : b1 ≠ b6 := Nat.ne_of_lt (by rw [← hb6]; exact ha_b1.lt)
  have ne_b2_b6 : b2 ≠ b6 := Nat.ne_of_lt (by rw [← hb6]; exact ha_b2.lt)
  have ne_b3_b6 : b3 ≠ b6 := Nat.ne_of_lt (by rw [← hb6]; exact ha_b3.lt)
  have ne_b4_b6 : b4 ≠ b6 := Nat.ne_of_lt (by rw [← hb6]; exact ha_b4.lt)
  have ne_b5_b6 : b5 ≠ b6 := Nat.ne_of_lt (by rw [← hb6]; exact ha_b5.lt)
  refine r_newa (atype := .boolean) (k := 1) (ty := .boolean) X q1306 rfl rfl (fun _ _ => rfl) (x := (nI 41)) (N' := 41) (41, .inl (fun _ => 0)) (fun _ => rfl) (nI_pos (by omega)) (nI_clamp (by omega)) (by show 41 * 1 ≤ 536870912; omega) (by show _ + 1 ≤ 9; omega) (by show _ + 41 ≤ 2011; omega) dX5_init_51 (fun H ha_b6 hE_b6 hz_b6 => ?_)
  rw [hb6] at ha_b6 hz_b6 ⊢
  have ob := ob.ext hE_b6
  have ha_b1 := ha_b1.ext hE_b6
  have ha_b2 := ha_b2.ext hE_b6
  have ha_b3 := ha_b3.ext hE_b6
  have ha_b4 := ha_b4.ext hE_b6
  have ha_b5 := ha_b5.ext hE_b6
  have hC := hC.trans hE_b6.chg
  have ha_b6 : Ar g b6 1 41 (fun _ => 0) H := ha_b6
  have e_b6 : b6 = o + 6 := by omega
  have z6 : H.size = o + 7 := by omega
  refine r_putF (C := RX5) (T := TX5) (N := 17) (ci := 0) X in_X5 tyX5 tyX5_ok nmX5 rfl 5 (Nat.le_of_ble_eq_true rfl) q1824 (fun _ h => h) rfl rfl rfl hL ob l1 rfl rfl (Nat.le_of_ble_eq_true rfl) dX5_init_53 (fun H locs hL h1 h2 => ?_)
  have ob : Ob g o 0 [.ref b1, .ref b2, .ref b3, .ref b4, .ref b5, .ref b6, .null, .null, .null, .int (nI 0), .int (nI 0), .int (nI 0), .int (nI 0), .int (nI 0), .int (nI 0), .int (nI 0), .long 0] H := h1
  have ha_b1 := ha_b1.on h2 (Ne.symm ne_o_b1)
  have ha_b2 := ha_b2.on h2 (Ne.symm ne_o_b2)
  have ha_b3 := ha_b3.on h2 (Ne.symm ne_o_b3)
  have ha_b4 := ha_b4.on h2 (Ne.symm ne_o_b4)
  have ha_b5 := ha_b5.on h2 (Ne.symm ne_o_b5)
  have ha_b6 := ha_b6.on h2 (Ne.symm ne_o_b6)
  have hC := hC.trans (h2.chg (Nat.le_refl _))
  have z6 : H.size = o + 7 := by rw [h2.1]; exact z6
  refine lv_aload_n hx hb dX5_init_56 rfl (lv_at hl 0 rfl) ?_
  refine lv_bipush (v := nI 40) hx hb dX5_init_57 (by decide) ?_
  obtain ⟨b7, hb7⟩ : ∃ b, H.size = b := ⟨_, rfl⟩
  have sz_b7 : s.heap.size ≤ b7 := by rw [← hb7]; exact hC.1
  have lo_b7 : gLo g ≤ b7 := Nat.le_trans X.2.2.2.2.2.2.2.1.2.1 sz_b7
  have p_b7 : (fun q => o ≤ q) b7 := (fun q hq => Nat.le_trans (by omega) hq : ∀ q, s.heap.size ≤ q → o ≤ q) b7 sz_b7
  have ne_o_b7 : o ≠ b7 := Nat.ne_of_lt (by rw [← hb7]; exact ob.lt)
  have ne_b1_b7 : b1 ≠ b7 := Nat.ne_of_lt (by rw [← hb7]; exact ha_b1.lt)
  have ne_b2_b7 : b2 ≠ b7 := Nat.ne_of_lt (by rw [← hb7]; exact ha_b2.lt)
  have ne_b3_b7 : b3 ≠ b7 := Nat.ne_of_lt (by rw [← hb7]; exact ha_b3.lt)
  have ne_b4_b7 : b4 ≠ b7 := Nat.ne_of_lt (by rw [← hb7]; exact ha_b4.lt)
  have ne_b5_b7 : b5 ≠ b7 := Nat.ne_of_lt (by rw [← hb7]; exact ha_b5.lt)
  have ne_b6_b7 : b6 ≠ b7 := Nat.ne_of_lt (by rw [← hb7]; exact ha_b6.lt)
  refine r_newa (atype := .boolean) (k := 1) (ty := .boolean) X q1306 rfl rfl (fun _ _ => rfl) (x := (nI 40)) (N' := 40) (40, .inl (fun _ => 0)) (fun _ => rfl) (nI_pos (by omega)) (nI_clamp (by omega)) (by show 40 * 1 ≤ 536870912; omega) (by show _ + 1 ≤ 9; omega) (by show _ + 40 ≤ 2011; omega) dX5_init_59 (fun H ha_b7 hE_b7 hz_b7 => ?_)
  rw [hb7] at ha_b7 hz_b7 ⊢
  have ob := ob.ext hE_b7
  have ha_b1 := ha_b1.ext hE_b7
  have ha_b2 := ha_b2.ext hE_b7
  have ha_b3 := ha_b3.ext hE_b7
  have ha_b4 := ha_b4.ext hE_b7
  have ha_b5 := ha_b5.ext hE_b7
  have ha_b6 := ha_b6.ext hE_b7
  have hC := hC.trans hE_b7.chg
  have ha_b7 : Ar g b7 1 40 (fun _ => 0) H := ha_b7
  have e_b7 : b7 = o + 7 := by omega
  have z7 : H.size = o + 8 := by omega
  refine r_putF (C := RX5) (T := TX5) (N := 17) (ci := 0) X in_X5 tyX5 tyX5_ok nmX5 rfl 6 (Nat.le_of_ble_eq_true rfl) q1825 (fun _ h => h) rfl rfl rfl hL ob l1 rfl rfl (Nat.le_of_ble_eq_true rfl) dX5_init_61 (fun H locs hL h1 h2 => ?_)
  have ob : Ob g o 0 [.ref b1, .ref b2, .ref b3, .ref b4, .ref b5, .ref b6, .ref b7, .null, .null, .int (nI 0), .int (nI 0), .int (nI 0), .int (nI 0), .int (nI 0), .int (nI 0), .int (nI 0), .long 0] H := h1
  have ha_b1 := ha_b1.on h2 (Ne.symm ne_o_b1)
  have ha_b2 := ha_b2.on h2 (Ne.symm ne_o_b2)
  have ha_b3 := ha_b3.on h2 (Ne.symm ne_o_b3)
  have ha_b4 := ha_b4.on h2 (Ne.symm ne_o_b4)
  have ha_b5 := ha_b5.on h2 (Ne.symm ne_o_b5)
  have ha_b6 := ha_b6.on h2 (Ne.symm ne_o_b6)
  have ha_b7 := ha_b7.on h2 (Ne.symm ne_o_b7)
  have hC := hC.trans (h2.chg (Nat.le_refl _))
  have z7 : H.size = o + 8 := by rw [h2.1]; exact z7
  refine lv_aload_n hx hb dX5_init_64 rfl (lv_at hl 0 rfl) ?_
  refine lv_bipush (v := nI 40) hx hb dX5_init_65 (by decide) ?_
  obtain ⟨b8, hb8⟩ : ∃ b, H.size = b := ⟨_, rfl⟩
  have sz_b8 : s.heap.size ≤ b8 := by rw [← hb8]; exact hC.1
  have lo_b8 : gLo g ≤ b8 := Nat.le_trans X.2.2.2.2.2.2.2.1.2.1 sz_b8
  have p_b8 : (fun q => o ≤ q) b8 := (fun q hq => Nat.le_trans (by omega) hq : ∀ q, s.heap.size ≤ q → o ≤ q) b8 sz_b8
  have ne_o_b8 : o ≠ b8 := Nat.ne_of_lt (by rw [← hb8]; exact ob.lt)
  have ne_b1_b8 : b1 ≠ b8 := Nat.ne_of_lt (by rw [← hb8]; exact ha_b1.lt)
  have ne_b2_b8 : b2 ≠ b8 := Nat.ne_of_lt (by rw [← hb8]; exact ha_b2.lt)
  have ne_b3_b8 : b3 ≠ b8 := Nat.ne_of_lt (by rw [← hb8]; exact ha_b3.lt)
  have ne_b4_b8 : b4 ≠ b8 := Nat.ne_of_lt (by rw [← hb8]; exact ha_b4.lt)
  have ne_b5_b8 : b5 ≠ b8 := Nat.ne_of_lt (by rw [← hb8]; exact ha_b5.lt)
  have ne_b6_b8 : b6 ≠ b8 := Nat.ne_of_lt (by rw [← hb8]; exact ha_b6.lt)
  have ne_b7_b8 : b7 ≠ b8 := Nat.ne_of_lt (by rw [← hb8]; exact ha_b7.lt)
  refine r_newa (atype := .int) (k := 0) (ty := .int) X q209 rfl rfl (fun _ _ => rfl) (x := (nI 40)) (N' := 40) (40, .inl (fun _ => 0)) (fun _ => rfl) (nI_pos (by omega)) (nI_clamp (by omega)) (by show 40 * 4 ≤ 536870912; omega) (by show _ + 1 ≤ 9; omega) (by show _ + 40 ≤ 2011; omega) dX5_init_67 (fun H ha_b8 hE_b8 hz_b8 => ?_)
  rw [hb8] at ha_b8 hz_b8 ⊢
  have ob := ob.ext hE_b8
  have ha_b1 := ha_b1.ext hE_b8
  have ha_b2 := ha_b2.ext hE_b8
  have ha_b3 := ha_b3.ext hE_b8
  have ha_b4 := ha_b4.ext hE_b8
  have ha_b5 := ha_b5.ext hE_b8
  have ha_b6 := ha_b6.ext hE_b8
  have ha_b7 := ha_b7.ext hE_b8
  have hC := hC.trans hE_b8.chg
  have ha_b8 : Ar g b8 0 40 (fun _ => 0) H := ha_b8
  have e_b8 : b8 = o + 8 := by omega
  have z8 : H.size = o + 9 := by omega
  refine r_putF (C := RX5) (T := TX5) (N := 17) (ci := 0) X in_X5 tyX5 tyX5_ok nmX5 rfl 7 (Nat.le_of_ble_eq_true rfl) q1826 (fun _ h => h) rfl rfl rfl hL ob l1 rfl rfl (Nat.le_of_ble_eq_true rfl) dX5_init_69 (fun H locs hL h1 h2 => ?_)
  have ob : Ob g o 0 [.ref b1, .ref b2, .ref b3, .ref b4, .ref b5, .ref b6, .ref b7, .ref b8, .null, .int (nI 0), .int (nI 0), .int (nI 0), .int (nI 0), .int (nI 0), .int (nI 0), .int (nI 0), .long 0] H := h1
  have ha_b1 := ha_b1.on h2 (Ne.symm ne_o_b1)
  have ha_b2 := ha_b2.on h2 (Ne.symm ne_o_b2)
  have ha_b3 := ha_b3.on h2 (Ne.symm ne_o_b3)
  have ha_b4 := ha_b4.on h2 (Ne.symm ne_o_b4)
  have ha_b5 := ha_b5.on h2 (Ne.symm ne_o_b5)
  have ha_b6 := ha_b6.on h2 (Ne.symm ne_o_b6)
  have ha_b7 := ha_b7.on h2 (Ne.symm ne_o_b7)
  have ha_b8 := ha_b8.on h2 (Ne.symm ne_o_b8)
  have hC := hC.trans (h2.chg (Nat.le_refl _))
  have z8 : H.size = o + 9 := by rw [h2.1]; exact z8
  refine lv_aload_n hx hb dX5_init_72 rfl (lv_at hl 0 rfl) ?_
  refine lv_bipush (v := nI 40) hx hb dX5_init_73 (by decide) ?_
  obtain ⟨b9, hb9⟩ : ∃ b, H.size = b := ⟨_, rfl⟩
  have sz_b9 : s.heap.size ≤ b9 := by rw [← hb9]; exact hC.1
  have lo_b9 : gLo g ≤ b9 := Nat.le_trans X.2.2.2.2.2.2.2.1.2.1 sz_b9
  have p_b9 : (fun q => o ≤ q) b9 := (fun q hq => Nat.le_trans (by omega) hq : ∀ q, s.heap.size ≤ q → o ≤ q) b9 sz_b9
  have ne_o_b9 : o ≠ b9 := Nat.ne_of_lt (by rw [← hb9]; exact ob.lt)
  have ne_b1_b9 : b1 ≠ b9 := Nat.ne_of_lt (by rw [← hb9]; exact ha_b1.lt)
  have ne_b2_b9 : b2 ≠ b9 := Nat.ne_of_lt (by rw [← hb9]; exact ha_b2.lt)
  have ne_b3_b9 : b3 ≠ b9 := Nat.ne_of_lt (by rw [← hb9]; exact ha_b3.lt)
  have ne_b4_b9 : b4 ≠ b9 := Nat.ne_of_lt (by rw [← hb9]; exact ha_b4.lt)
  have ne_b5_b9 : b5 ≠ b9 := Nat.ne_of_lt (by rw [← hb9]; exact ha_b5.lt)
  have ne_b6_b9 : b6 ≠ b9 := Nat.ne_of_lt (by rw [← hb9]; exact ha_b6.lt)
  have ne_b7_b9 : b7 ≠ b9 := Nat.ne_of_lt (by rw [← hb9]; exact ha_b7.lt)
  have ne_b8_b9 : b8 ≠ b9 := Nat.ne_of_lt (by rw [← hb9]; exact ha_b8.lt)
  refine r_newa (atype := .int) (k := 0) (ty := .int) X q209 rfl rfl (fun _ _ => rfl) (x := (nI 40)) (N' := 40) (40, .inl (fun _ => 0)) (fun _ => rfl) (nI_pos (by omega)) (nI_clamp (by omega)) (by show 40 * 4 ≤ 536870912; omega) (by show _ + 1 ≤ 9; omega) (by show _ + 40 ≤ 2011; omega) dX5_init_75 (fun H ha_b9 hE_b9 hz_b9 => ?_)
  rw [hb9] at ha_b9 hz_b9 ⊢
  have ob := ob.ext hE_b9
  have ha_b1 := ha_b1.ext hE_b9
  have ha_b2 := ha_b2.ext hE_b9
  have ha_b3 := ha_b3.ext hE_b9
  have ha_b4 := ha_b4.ext hE_b9
  have ha_b5 := ha_b5.ext hE_b9
  have ha_b6 := ha_b6.ext hE_b9
  have ha_b7 := ha_b7.ext hE_b9
  have ha_b8 := ha_b8.ext hE_b9
  have hC := hC.trans hE_b9.chg
  have ha_b9 : Ar g b9 0 40 (fun _ => 0) H := ha_b9
  have e_b9 : b9 = o + 9 := by omega
  have z9 : H.size = o + 10 := by omega
  refine r_putF (C := RX5) (T := TX5) (N := 17) (ci := 0) X in_X5 tyX5 tyX5_ok nmX5 rfl 8 (Nat.le_of_ble_eq_true rfl) q1827 (fun _ h => h) rfl rfl rfl hL ob l1 rfl rfl (Nat.le_of_ble_eq_true rfl) dX5_init_77 (fun H locs hL h1 h2 => ?_)
  have ob : Ob g o 0 [.ref b1, .ref b2, .ref b3, .ref b4, .ref b5, .ref b6, .ref b7, .ref b8, .ref b9, .int (nI 0), .int (nI 0), .int (nI 0), .int (nI 0), .int (nI 0), .int (nI 0), .int (nI 0), .long 0] H := h1
  have ha_b1 := ha_b1.on h2 (Ne.symm ne_o_b1)
  have ha_b2 := ha_b2.on h2 (Ne.symm ne_o_b2)
  have ha_b3 := ha_b3.on h2 (Ne.symm ne_o_b3)
  have ha_b4 := ha_b4.on h2 (Ne.symm ne_o_b4)
  have ha_b5 := ha_b5.on h2 (Ne.symm ne_o_b5)
  have ha_b6 := ha_b6.on h2 (Ne.symm ne_o_b6)
  have ha_b7 := ha_b7.on h2 (Ne.symm ne_o_b7)
  have ha_b8 := ha_b8.on h2 (Ne.symm ne_o_b8)
  have ha_b9 := ha_b9.on h2 (Ne.symm ne_o_b9)
  have hC := hC.trans (h2.chg (Nat.le_refl _))
  have z9 : H.size = o + 10 := by rw [h2.1]; exact z9
  obtain ⟨S, hS⟩ : ∃ S : MS, S = (fun _ _ => 0, fun _ => 0, 0) := ⟨_, rfl⟩
  subst e_b1
  subst e_b2
  subst e_b3
  subst e_b4
  subst e_b5
  subst e_b6
  subst e_b7
  subst e_b8
  subst e_b9
  have hW : MW g o S H := by
    subst hS
    refine ⟨l1, ob, fun k hk => ?_⟩
    match k, hk with
    | 0, _ => exact ha_b1
    | 1, _ => exact ha_b2
    | 2, _ => exact ha_b3
    | 3, _ => exact ha_b4
    | 4, _ => exact ha_b5
    | 5, _ => exact ha_b6
    | 6, _ => exact ha_b7
    | 7, _ => exact ha_b8
    | 8, _ => exact ha_b9
  obtain ⟨H2, hH2⟩ : ∃ H2, H2 = H := ⟨_, rfl⟩
  have hO : Off o H2 H := by rw [hH2]; exact Off.rfl'
  have hC2 : Chg (fun q => o ≤ q) s.heap H2 := by rw [hH2]; exact hC
  have z2 : H2.size = o + 10 := by rw [hH2]; exact z9
  clear hC
  refine lv_iconst (v := nI 0) hx hb dX5_init_80 (by decide) ?_
  refine lv_istore_n (lv' := [(1, .int _), (0, .ref _)]) hx hb dX5_init_81 rfl hl (by decide) rfl (fun ls hl => ?_)
  have L82 : ∀ (fuel : Nat) (i : Nat), 4 - i < fuel → (i ≤ 4) → ∀ (H : Heap), MW g o (uA S 0 (r0k i)) H → Off o H2 H → ∀ (locs : List Loc), (∀ q ∈ locs, gLo g ≤ q.base) → ∀ (ls : Array Slot), lv_has ls 2 [(0, .ref o), (1, .int (nI i))] → W p l e (rmL 2 9 2011) s m args below meth c H locs 9 2011 (MQ below (Qcg (fun r H H1 => r = none ∧ MW g o S00 H1 ∧ H1.size = o + 10 ∧ Chg (fun q => o ≤ q) H H1)) args s 9 2011 (fre g)) (F0 m 82 ls []) := by
    intro fuel
    induction fuel with
    | zero => intro i hfu; exact absurd hfu (Nat.not_lt_zero _)
    | succ fuel ih82 =>
      intro i hfu hi H hW hO locs hL ls hl
      refine lv_iload_n hx hb dX5_init_82 rfl (lv_at hl 1 rfl) ?_
      refine lv_iconst (v := nI 4) hx hb dX5_init_83 (by decide) ?_
      refine n_icmp_ge (tgt := 116) X dX5_init_84 (by decide) (by omega) (by omega) (fun c_84 => ?_) (fun c_84 => ?_)
      ·
        have hC3 := hC2.trans (⟨Nat.le_of_eq hO.1.symm, fun q h1 h2 => hO.2 q (Or.inl (Nat.lt_of_not_le h2))⟩ : Chg (fun q => o ≤ q) H2 H)
        have hi4 : i = 4 := by omega
        subst hi4
        exact r_vret X hL dX5_init_116 (by omega) (by omega) ⟨rfl, hW.cast (by rw [hS]; exact ⟨rfl, rfl, rfl, rfl, rfl, rfl, rfl, rfl, rfl, rfl, rfl, rfl, rfl, rfl, rfl, rfl, rfl⟩), hO.1.trans z2, hC3⟩
      ·
        refine lv_aload_n hx hb dX5_init_87 rfl (lv_at hl 0 rfl) ?_
        refine mg_7 X rfl hW dX5_init_88 ?_
        refine lv_sipush (v := nI 169) hx hb dX5_init_91 (by decide) ?_
        refine lv_iload_n hx hb dX5_init_94 rfl (lv_at hl 1 rfl) ?_
        refine n_iadd X dX5_init_95 ?_
        refine lv_bipush (v := nI 99) hx hb dX5_init_96 (by decide) ?_
        refine m_st X hL hW 0 (by decide) rfl (169 + i) rfl (by show 169 + i < 179; omega) dX5_init_98 (fun H locs hL hW hO1 => ?_)
        have hO := hO.trans hO1
        have hW := MW.cast (S1 := uA S 0 (upd (r0k i) (169 + i) (nI 99))) hW ⟨rfl, rfl, rfl, rfl, rfl, rfl, rfl, rfl, rfl, rfl, rfl, rfl, rfl, rfl, rfl, rfl, rfl⟩
        refine lv_aload_n hx hb dX5_init_99 rfl (lv_at hl 0 rfl) ?_
        refine mg_7 X rfl hW dX5_init_100 ?_
        refine lv_sipush (v := nI 173) hx hb dX5_init_103 (by decide) ?_
        refine lv_iload_n hx hb dX5_init_106 rfl (lv_at hl 1 rfl) ?_
        refine n_iadd X dX5_init_107 ?_
        refine lv_iconst (v := nI 1) hx hb dX5_init_108 (by decide) ?_
        refine m_st X hL hW 0 (by decide) rfl (173 + i) rfl (by show 173 + i < 179; omega) dX5_init_109 (fun H locs hL hW hO1 => ?_)
        have hO := hO.trans hO1
        have hW := MW.cast (S1 := uA S 0 (upd (upd (r0k i) (169 + i) (nI 99)) (173 + i) (nI 1))) hW ⟨rfl, rfl, rfl, rfl, rfl, rfl, rfl, rfl, rfl, rfl, rfl, rfl, rfl, rfl, rfl, rfl, rfl⟩
        have hW := MW.eqA (k := 0) (f := upd (upd (r0k i) (169 + i) (nI 99)) (173 + i) (nI 1)) (f1 := r0k (i + 1)) hW (r0k_s i (by omega)) rfl (fun h => MW.cast (S1 := uA S 0 (r0k (i + 1))) h ⟨rfl, rfl, rfl, rfl, rfl, rfl, rfl, rfl, rfl, rfl, rfl, rfl, rfl, rfl, rfl, rfl, rfl⟩)
        refine lv_iinc (v := nI (i + 1)) (lv' := [(1, .int _), (0, .ref _)]) hx hb dX5_init_110 hl (k := 1) rfl (nI_iinc _ 1 rfl) (by decide) rfl (fun ls hl => ?_)
        refine lv_goto (tgt := 82) hx hb dX5_init_113 (by decide) ?_
        exact W.widen (by omega) (by omega) (ih82 (i + 1) (by omega) (by omega) _ hW hO _ hL ls (lv_sub hl [1, 0] rfl))
  exact W.widen (by omega) (by omega) (L82 5 0 (by omega) (by omega) _ (MW.cast hW ⟨(by rw [r0k_0, hS]; rfl), rfl, rfl, rfl, rfl, rfl, rfl, rfl, rfl, rfl, rfl, rfl, rfl, rfl, rfl, rfl, rfl⟩) hO _ hL ls (lv_sub hl [1, 0] rfl))
theorem ib_X5_init : IB yX5_init cX5_init 2 0 := ⟨q1816, q111, q1817, rfl, ⟨by decide, by decide, by decide +kernel⟩⟩
