/-! sides and states made -/
theorem Ar.to {g : GT} {a k n : Nat} {f h : Nat → Int32} {H : Heap} (x : Ar g a k n f H) (e : ∀ j, j < n → f j = h j) : Ar g a k n h H := by
  have e2 : vp_cell (gA g k) (n, .inl f) = vp_cell (gA g k) (n, .inl h) := by
    show arrV (gA g k) n (fun j => .int (f j)) = arrV (gA g k) n (fun j => .int (h j))
    unfold arrV
    congr 1
    apply Array.ext
    · simp
    · intro i h1 h2
      simp at h1 ⊢
      exact e i h1
  show H[a]? = _
  rw [← e2]; exact x
theorem SidR.to {g : GT} {P Q : Nat → Prop} {r r1 : Nat → Int32} {a : Nat} {H : Heap} (h : SidR g P r a H) (e : ∀ j, 161 ≤ j → j < 177 → r j = r1 j) (hP : ∀ q, P q → q < H.size → Q q) : SidR g Q r1 a H := by
  obtain ⟨a1, a2, a3, a4, ⟨p0, p1, p2, p3, p4⟩, l, ne, h0, h1, h2, h3, h4⟩ := h
  exact ⟨a1, a2, a3, a4, ⟨hP _ p0 h0.lt, hP _ p1 h1.lt, hP _ p2 h2.lt, hP _ p3 h3.lt, hP _ p4 h4.lt⟩, l, ne, h0, h1.to (fun j hj => e _ (by omega) (by omega)), h2.to (fun j hj => e _ (by omega) (by omega)), h3.to (fun j hj => e _ (by omega) (by omega)), h4.to (fun j hj => e _ (by omega) (by omega))⟩
/-- the first row of all -/
def row0 : Nat → Int32 := fun j => if 169 ≤ j ∧ j < 173 then nI 99 else if 173 ≤ j ∧ j < 177 then nI 1 else nI 0

theorem up_lt (j k v : Nat) : upd (fun j => if j < k then nI v else 0) k (nI v) j = if j < k + 1 then nI v else 0 := by
  unfold upd
  by_cases e : j = k
  · rw [if_pos e, if_pos (by omega)]
  · rw [if_neg e]
    dsimp only
    by_cases q : j < k
    · rw [if_pos q, if_pos (by omega)]
    · rw [if_neg q, if_neg (by omega)]

set_option maxRecDepth 100000 in
set_option maxHeartbeats 4000000 in
theorem ct_X4_init (l : Launch) (g : GT) (a : Nat) (l1 : gLo g ≤ a) : Ct l g yX4_init cX4_init 2 none 2 4 16 [.ref a] (Ob g a 4 [.null, .null, .null, .null]) (fun r H H1 => r = none ∧ SidR g (fun q => q = a ∨ H.size ≤ q) row0 a H1 ∧ Chg (fun q => q = a ∨ H.size ≤ q) H H1) := by
  refine Ct.of (by decide) (Nat.le_of_ble_eq_true rfl) ?_
  intro p e s m args below meth c X hP ls hl
  have hx := X.1
  have hb := X.2.1
  have hKV := X.2.2.2.2.2.2.2.1.1
  have hL : ∀ q ∈ ([] : List Loc), gLo g ≤ q.base := fun _ h => by cases h
  have ob := hP
  have hal := ob.lt
  have hl : lv_has ls 2 [(0, .ref a)] := hl
  have hC : Chg (fun q => q = a ∨ s.heap.size ≤ q) s.heap s.heap := Chg.rfl'
  refine lv_aload_n hx hb dX4_init_0 rfl (lv_at hl 0 rfl) ?_
  refine W.objInit hx hb X.2.2.2.1 (X.2.2.2.2.1 _ q188) (X.2.2.2.2.1 _ q138) (X.2.2.2.2.1 _ q139) rfl (hl.1.trans X.2.2.1.symm) rfl dX4_init_1 (Nat.le_of_ble_eq_true rfl) (Nat.le_of_ble_eq_true rfl) ?_
  refine lv_aload_n hx hb dX4_init_4 rfl (lv_at hl 0 rfl) ?_
  refine lv_iconst (v := nI 4) hx hb dX4_init_5 (by decide) ?_
  obtain ⟨b1, hb1⟩ : ∃ b, s.heap.size = b := ⟨_, rfl⟩
  have sz_b1 : s.heap.size ≤ b1 := by rw [← hb1]; exact Nat.le_refl _
  have lo_b1 : gLo g ≤ b1 := Nat.le_trans X.2.2.2.2.2.2.2.1.2.1 sz_b1
  have p_b1 : (fun q => q = a ∨ s.heap.size ≤ q) b1 := (fun q hq => Or.inr hq : ∀ q, s.heap.size ≤ q → (fun q => q = a ∨ s.heap.size ≤ q) q) b1 sz_b1
  have ne_a_b1 : a ≠ b1 := Nat.ne_of_lt (by rw [← hb1]; exact ob.lt)
  refine r_newa (atype := .int) (k := 0) (ty := .int) X q209 rfl rfl (fun _ _ => rfl) (x := (nI 4)) (N' := 4) (4, .inl (fun _ => 0)) (fun _ => rfl) (nI_pos (by omega)) (nI_clamp (by omega)) (by show 4 * 4 ≤ 536870912; omega) (by show _ + 1 ≤ 4; omega) (by show _ + 4 ≤ 16; omega) dX4_init_6 (fun H ha_b1 hE_b1 hz_b1 => ?_)
  rw [hb1] at ha_b1 hz_b1 ⊢
  have ob := ob.ext hE_b1
  have hC := hC.trans hE_b1.chg
  have ha_b1 : Ar g b1 0 4 (fun _ => 0) H := ha_b1
  refine r_put (C := RX4) (T := TX4) (N := 4) (ci := 4) X in_X4 tyX4 tyX4_ok nmX4 rfl 0 (Nat.le_of_ble_eq_true rfl) q189 (fun _ h => h) rfl hL ob l1 rfl rfl (Nat.le_of_ble_eq_true rfl) dX4_init_8 (fun H locs hL h1 h2 => ?_)
  have ob : Ob g a 4 [.ref b1, .null, .null, .null] H := h1
  have ha_b1 := ha_b1.on h2 (Ne.symm ne_a_b1)
  have hC := hC.trans (h2.chg (Or.inl rfl))
  refine lv_aload_n hx hb dX4_init_11 rfl (lv_at hl 0 rfl) ?_
  refine lv_iconst (v := nI 4) hx hb dX4_init_12 (by decide) ?_
  obtain ⟨b2, hb2⟩ : ∃ b, H.size = b := ⟨_, rfl⟩
  have sz_b2 : s.heap.size ≤ b2 := by rw [← hb2]; exact hC.1
  have lo_b2 : gLo g ≤ b2 := Nat.le_trans X.2.2.2.2.2.2.2.1.2.1 sz_b2
  have p_b2 : (fun q => q = a ∨ s.heap.size ≤ q) b2 := (fun q hq => Or.inr hq : ∀ q, s.heap.size ≤ q → (fun q => q = a ∨ s.heap.size ≤ q) q) b2 sz_b2
  have ne_a_b2 : a ≠ b2 := Nat.ne_of_lt (by rw [← hb2]; exact ob.lt)
  have ne_b1_b2 : b1 ≠ b2 := Nat.ne_of_lt (by rw [← hb2]; exact ha_b1.lt)
  refine r_newa (atype := .int) (k := 0) (ty := .int) X q209 rfl rfl (fun _ _ => rfl) (x := (nI 4)) (N' := 4) (4, .inl (fun _ => 0)) (fun _ => rfl) (nI_pos (by omega)) (nI_clamp (by omega)) (by show 4 * 4 ≤ 536870912; omega) (by show _ + 1 ≤ 4; omega) (by show _ + 4 ≤ 16; omega) dX4_init_13 (fun H ha_b2 hE_b2 hz_b2 => ?_)
  rw [hb2] at ha_b2 hz_b2 ⊢
  have ob := ob.ext hE_b2
  have ha_b1 := ha_b1.ext hE_b2
  have hC := hC.trans hE_b2.chg
  have ha_b2 : Ar g b2 0 4 (fun _ => 0) H := ha_b2
  refine r_put (C := RX4) (T := TX4) (N := 4) (ci := 4) X in_X4 tyX4 tyX4_ok nmX4 rfl 1 (Nat.le_of_ble_eq_true rfl) q192 (fun _ h => h) rfl hL ob l1 rfl rfl (Nat.le_of_ble_eq_true rfl) dX4_init_15 (fun H locs hL h1 h2 => ?_)
  have ob : Ob g a 4 [.ref b1, .ref b2, .null, .null] H := h1
  have ha_b1 := ha_b1.on h2 (Ne.symm ne_a_b1)
  have ha_b2 := ha_b2.on h2 (Ne.symm ne_a_b2)
  have hC := hC.trans (h2.chg (Or.inl rfl))
  refine lv_aload_n hx hb dX4_init_18 rfl (lv_at hl 0 rfl) ?_
  refine lv_iconst (v := nI 4) hx hb dX4_init_19 (by decide) ?_
  obtain ⟨b3, hb3⟩ : ∃ b, H.size = b := ⟨_, rfl⟩
  have sz_b3 : s.heap.size ≤ b3 := by rw [← hb3]; exact hC.1
  have lo_b3 : gLo g ≤ b3 := Nat.le_trans X.2.2.2.2.2.2.2.1.2.1 sz_b3
  have p_b3 : (fun q => q = a ∨ s.heap.size ≤ q) b3 := (fun q hq => Or.inr hq : ∀ q, s.heap.size ≤ q → (fun q => q = a ∨ s.heap.size ≤ q) q) b3 sz_b3
  have ne_a_b3 : a ≠ b3 := Nat.ne_of_lt (by rw [← hb3]; exact ob.lt)
  have ne_b1_b3 : b1 ≠ b3 := Nat.ne_of_lt (by rw [← hb3]; exact ha_b1.lt)
  have ne_b2_b3 : b2 ≠ b3 := Nat.ne_of_lt (by rw [← hb3]; exact ha_b2.lt)
  refine r_newa (atype := .int) (k := 0) (ty := .int) X q209 rfl rfl (fun _ _ => rfl) (x := (nI 4)) (N' := 4) (4, .inl (fun _ => 0)) (fun _ => rfl) (nI_pos (by omega)) (nI_clamp (by omega)) (by show 4 * 4 ≤ 536870912; omega) (by show _ + 1 ≤ 4; omega) (by show _ + 4 ≤ 16; omega) dX4_init_20 (fun H ha_b3 hE_b3 hz_b3 => ?_)
  rw [hb3] at ha_b3 hz_b3 ⊢
  have ob := ob.ext hE_b3
  have ha_b1 := ha_b1.ext hE_b3
  have ha_b2 := ha_b2.ext hE_b3
  have hC := hC.trans hE_b3.chg
  have ha_b3 : Ar g b3 0 4 (fun _ => 0) H := ha_b3
  refine r_put (C := RX4) (T := TX4) (N := 4) (ci := 4) X in_X4 tyX4 tyX4_ok nmX4 rfl 2 (Nat.le_of_ble_eq_true rfl) q195 (fun _ h => h) rfl hL ob l1 rfl rfl (Nat.le_of_ble_eq_true rfl) dX4_init_22 (fun H locs hL h1 h2 => ?_)
  have ob : Ob g a 4 [.ref b1, .ref b2, .ref b3, .null] H := h1
  have ha_b1 := ha_b1.on h2 (Ne.symm ne_a_b1)
  have ha_b2 := ha_b2.on h2 (Ne.symm ne_a_b2)
  have ha_b3 := ha_b3.on h2 (Ne.symm ne_a_b3)
  have hC := hC.trans (h2.chg (Or.inl rfl))
  refine lv_aload_n hx hb dX4_init_25 rfl (lv_at hl 0 rfl) ?_
  refine lv_iconst (v := nI 4) hx hb dX4_init_26 (by decide) ?_
  obtain ⟨b4, hb4⟩ : ∃ b, H.size = b := ⟨_, rfl⟩
  have sz_b4 : s.heap.size ≤ b4 := by rw [← hb4]; exact hC.1
  have lo_b4 : gLo g ≤ b4 := Nat.le_trans X.2.2.2.2.2.2.2.1.2.1 sz_b4
  have p_b4 : (fun q => q = a ∨ s.heap.size ≤ q) b4 := (fun q hq => Or.inr hq : ∀ q, s.heap.size ≤ q → (fun q => q = a ∨ s.heap.size ≤ q) q) b4 sz_b4
  have ne_a_b4 : a ≠ b4 := Nat.ne_of_lt (by rw [← hb4]; exact ob.lt)
  have ne_b1_b4 : b1 ≠ b4 := Nat.ne_of_lt (by rw [← hb4]; exact ha_b1.lt)
  have ne_b2_b4 : b2 ≠ b4 := Nat.ne_of_lt (by rw [← hb4]; exact ha_b2.lt)
  have ne_b3_b4 : b3 ≠ b4 := Nat.ne_of_lt (by rw [← hb4]; exact ha_b3.lt)
  refine r_newa (atype := .int) (k := 0) (ty := .int) X q209 rfl rfl (fun _ _ => rfl) (x := (nI 4)) (N' := 4) (4, .inl (fun _ => 0)) (fun _ => rfl) (nI_pos (by omega)) (nI_clamp (by omega)) (by show 4 * 4 ≤ 536870912; omega) (by show _ + 1 ≤ 4; omega) (by show _ + 4 ≤ 16; omega) dX4_init_27 (fun H ha_b4 hE_b4 hz_b4 => ?_)
  rw [hb4] at ha_b4 hz_b4 ⊢
  have ob := ob.ext hE_b4
  have ha_b1 := ha_b1.ext hE_b4
  have ha_b2 := ha_b2.ext hE_b4
  have ha_b3 := ha_b3.ext hE_b4
  have hC := hC.trans hE_b4.chg
  have ha_b4 : Ar g b4 0 4 (fun _ => 0) H := ha_b4
  refine r_put (C := RX4) (T := TX4) (N := 4) (ci := 4) X in_X4 tyX4 tyX4_ok nmX4 rfl 3 (Nat.le_of_ble_eq_true rfl) q198 (fun _ h => h) rfl hL ob l1 rfl rfl (Nat.le_of_ble_eq_true rfl) dX4_init_29 (fun H locs hL h1 h2 => ?_)
  have ob : Ob g a 4 [.ref b1, .ref b2, .ref b3, .ref b4] H := h1
  have ha_b1 := ha_b1.on h2 (Ne.symm ne_a_b1)
  have ha_b2 := ha_b2.on h2 (Ne.symm ne_a_b2)
  have ha_b3 := ha_b3.on h2 (Ne.symm ne_a_b3)
  have ha_b4 := ha_b4.on h2 (Ne.symm ne_a_b4)
  have hC := hC.trans (h2.chg (Or.inl rfl))
  refine lv_iconst (v := nI 0) hx hb dX4_init_32 (by decide) ?_
  refine lv_istore_n (lv' := [(1, .int _), (0, .ref _)]) hx hb dX4_init_33 rfl hl (by decide) rfl (fun ls hl => ?_)
  have L34 : ∀ (fuel : Nat) (k : Nat), 4 - k < fuel → (k ≤ 4) → ∀ (H : Heap), Ob g a 4 [.ref b1, .ref b2, .ref b3, .ref b4] H → Ar g b1 0 4 (fun _ => 0) H → Ar g b2 0 4 (fun _ => 0) H → Ar g b3 0 4 (fun j => if j < k then nI 99 else 0) H → Ar g b4 0 4 (fun j => if j < k then nI 1 else 0) H → Chg (fun q => q = a ∨ s.heap.size ≤ q) s.heap H → ∀ (locs : List Loc), (∀ q ∈ locs, gLo g ≤ q.base) → ∀ (ls : Array Slot), lv_has ls 2 [(0, .ref a), (1, .int (nI k))] → W p l e (rmL 2 4 16) s m args below meth c H locs 4 16 (MQ below (Qcg (fun r H H1 => r = none ∧ SidR g (fun q => q = a ∨ H.size ≤ q) row0 a H1 ∧ Chg (fun q => q = a ∨ H.size ≤ q) H H1)) args s 4 16 (fre g)) (F0 m 34 ls []) := by
    intro fuel
    induction fuel with
    | zero => intro k hfu; exact absurd hfu (Nat.not_lt_zero _)
    | succ fuel ih34 =>
      intro k hfu hk H ob ha_b1 ha_b2 ha_b3 ha_b4 hC locs hL ls hl
      refine lv_iload_n hx hb dX4_init_34 rfl (lv_at hl 1 rfl) ?_
      refine lv_iconst (v := nI 4) hx hb dX4_init_35 (by decide) ?_
      refine n_icmp_ge (tgt := 60) X dX4_init_36 (by decide) (by omega) (by omega) (fun c_36 => ?_) (fun c_36 => ?_)
      ·
        exact r_vret X hL dX4_init_60 (by omega) (by omega) ⟨rfl, ⟨b1, b2, b3, b4, ⟨Or.inl rfl, Or.inr sz_b1, Or.inr sz_b2, Or.inr sz_b3, Or.inr sz_b4⟩, ⟨l1, lo_b1, lo_b2, lo_b3, lo_b4⟩, ⟨ne_b1_b2, ne_b1_b3, ne_b1_b4, ne_b2_b3, ne_b2_b4, ne_b3_b4, ne_a_b1, ne_a_b2, ne_a_b3, ne_a_b4⟩, ob, ha_b1.to (fun j hj => by unfold mw row0; rw [if_neg (by omega), if_neg (by omega)]; rfl), ha_b2.to (fun j hj => by unfold mle row0; rw [if_neg (by omega), if_neg (by omega)]; rfl), ha_b3.to (fun j hj => by unfold mgr row0; rw [if_pos (by omega), if_pos (by omega)]), ha_b4.to (fun j hj => by unfold mwe row0; rw [if_pos (by omega), if_neg (by omega), if_pos (by omega)])⟩, hC⟩
      ·
        refine lv_aload_n hx hb dX4_init_39 rfl (lv_at hl 0 rfl) ?_
        refine r_get (C := RX4) (T := TX4) (N := 4) (ci := 4) X in_X4 rfl 2 (Nat.le_of_ble_eq_true rfl) q195 (fun _ h => h) ob rfl dX4_init_40 ?_
        refine lv_iload_n hx hb dX4_init_43 rfl (lv_at hl 1 rfl) ?_
        refine lv_bipush (v := nI 99) hx hb dX4_init_44 (by decide) ?_
        refine r_ist X hL ha_b3 lo_b3 k (nI_cl (by omega) rfl) (nI_nn (by omega) rfl) (by omega) dX4_init_46 (fun H locs hL h1 h2 => ?_)
        have ha_b3 : Ar g b3 0 4 (upd (fun j => if j < k then nI 99 else 0) k (nI 99)) H := h1
        have ob := ob.on h2 ne_a_b3
        have ha_b1 := ha_b1.on h2 ne_b1_b3
        have ha_b2 := ha_b2.on h2 ne_b2_b3
        have ha_b4 := ha_b4.on h2 (Ne.symm ne_b3_b4)
        have hC := hC.trans (h2.chg p_b3)
        refine lv_aload_n hx hb dX4_init_47 rfl (lv_at hl 0 rfl) ?_
        refine r_get (C := RX4) (T := TX4) (N := 4) (ci := 4) X in_X4 rfl 3 (Nat.le_of_ble_eq_true rfl) q198 (fun _ h => h) ob rfl dX4_init_48 ?_
        refine lv_iload_n hx hb dX4_init_51 rfl (lv_at hl 1 rfl) ?_
        refine lv_iconst (v := nI 1) hx hb dX4_init_52 (by decide) ?_
        refine r_ist X hL ha_b4 lo_b4 k (nI_cl (by omega) rfl) (nI_nn (by omega) rfl) (by omega) dX4_init_53 (fun H locs hL h1 h2 => ?_)
        have ha_b4 : Ar g b4 0 4 (upd (fun j => if j < k then nI 1 else 0) k (nI 1)) H := h1
        have ob := ob.on h2 ne_a_b4
        have ha_b1 := ha_b1.on h2 ne_b1_b4
        have ha_b2 := ha_b2.on h2 ne_b2_b4
        have ha_b3 := ha_b3.on h2 ne_b3_b4
        have hC := hC.trans (h2.chg p_b4)
        refine lv_iinc (v := nI (k + 1)) (lv' := [(1, .int _), (0, .ref _)]) hx hb dX4_init_54 hl (k := 1) rfl (nI_iinc _ 1 rfl) (by decide) rfl (fun ls hl => ?_)
        refine lv_goto (tgt := 34) hx hb dX4_init_57 (by decide) ?_
        exact W.widen (by omega) (by omega) (ih34 (k + 1) (by omega) (by omega) _ ob ha_b1 ha_b2 (ha_b3.to (fun j _ => up_lt j k 99)) (ha_b4.to (fun j _ => up_lt j k 1)) hC _ hL ls (lv_sub hl [1, 0] rfl))
  exact W.widen (by omega) (by omega) (L34 5 0 (by omega) (by omega) _ ob ha_b1 ha_b2 (ha_b3.to (fun _ _ => (if_neg (Nat.not_lt_zero _)).symm)) (ha_b4.to (fun _ _ => (if_neg (Nat.not_lt_zero _)).symm)) hC _ hL ls (lv_sub hl [1, 0] rfl))
theorem ib_X4_init : IB yX4_init cX4_init 2 0 := ⟨q186, q105, q187, rfl, ⟨by decide, by decide, by decide +kernel⟩⟩

set_option maxRecDepth 100000 in
set_option maxHeartbeats 4000000 in
theorem ct_X4_twin (l : Launch) (g : GT) (P : Nat → Prop) (ro : Nat → Int32) (a : Nat)  : Ct l g yX4_twin cX4_twin 2 (some (.object "OfferSky$Sides")) 4 9 36 [.ref a] (SidR g P ro a) (fun r H H1 => ∃ t, SidR g (fun q => H.size ≤ q) ro t H1 ∧ r = some (.ref t) ∧ Ext H H1) := by
  refine Ct.of (by decide) (Nat.le_of_ble_eq_true rfl) ?_
  intro p e s m args below meth c X hP ls hl
  have hx := X.1
  have hb := X.2.1
  have hKV := X.2.2.2.2.2.2.2.1.1
  have hL : ∀ q ∈ ([] : List Loc), gLo g ≤ q.base := fun _ h => by cases h
  obtain ⟨a1, a2, a3, a4, -, -, -, o0, w1, w2, w3, w4⟩ := hP
  have hl : lv_has ls 2 [(0, .ref a)] := hl
  have hE : Ext s.heap s.heap := Ext.rfl'
  have o0l := o0.lt
  have w1l := w1.lt
  have w2l := w2.lt
  have w3l := w3.lt
  have w4l := w4.lt
  obtain ⟨b1, hb1⟩ : ∃ b, s.heap.size = b := ⟨_, rfl⟩
  have sz_b1 : s.heap.size ≤ b1 := by rw [← hb1]; exact Nat.le_refl _
  have lo_b1 : gLo g ≤ b1 := Nat.le_trans X.2.2.2.2.2.2.2.1.2.1 sz_b1
  have ne_a_b1 : a ≠ b1 := Nat.ne_of_lt (by rw [← hb1]; exact o0.lt)
  have ne_a1_b1 : a1 ≠ b1 := Nat.ne_of_lt (by rw [← hb1]; exact w1.lt)
  have ne_a2_b1 : a2 ≠ b1 := Nat.ne_of_lt (by rw [← hb1]; exact w2.lt)
  have ne_a3_b1 : a3 ≠ b1 := Nat.ne_of_lt (by rw [← hb1]; exact w3.lt)
  have ne_a4_b1 : a4 ≠ b1 := Nat.ne_of_lt (by rw [← hb1]; exact w4.lt)
  refine r_new (C := RX4) (T := TX4) (N := 4) (ci := 4) X in_X4 tyX4 tyX4_ok q426 q184 q105 rfl (fs := [.null, .null, .null, .null]) (fun j hj => by rcases j with _ | _ | _ | _ | _ | j <;> first | rfl | omega) (by show _ + 1 ≤ 9; omega) (by show _ + 4 ≤ 36; omega) dX4_twin_0 (fun H ha_b1 hE_b1 hz_b1 => ?_)
  rw [hb1] at ha_b1 hz_b1 ⊢
  have o0 := o0.ext hE_b1
  have w1 := w1.ext hE_b1
  have w2 := w2.ext hE_b1
  have w3 := w3.ext hE_b1
  have w4 := w4.ext hE_b1
  have hE := hE.trans hE_b1
  refine lv_dup hx hb dX4_twin_3 rfl ?_
  refine Ct.callI (ct_X4_init l g b1 lo_b1) X hL hl ib_X4_init q427 rfl rfl (Nat.le_of_ble_eq_true rfl) dX4_twin_4 ⟨Nat.le_of_ble_eq_true rfl, Nat.le_of_ble_eq_true rfl⟩ (by omega) (by omega) ha_b1 (fun r H locs hL hp => ?_)
  obtain ⟨rfl, ⟨t1, t2, t3, t4, ⟨-, q1, q2, q3, q4⟩, ⟨-, k1, k2, k3, k4⟩, ⟨-, -, -, -, -, -, n1, n2, n3, n4⟩, ha_b1, -, -, -, -⟩, hC1⟩ := hp
  have hcx : ∀ q, (q = b1 ∨ _ ≤ q) → s.heap.size ≤ q := fun q hq => hq.elim (fun z => z ▸ sz_b1) (fun z => Nat.le_trans hE.1 z)
  have o0 := o0.chg hC1 (fun z => absurd (hcx _ z) (Nat.not_le_of_lt o0l))
  have w1 := w1.chg hC1 (fun z => absurd (hcx _ z) (Nat.not_le_of_lt w1l))
  have w2 := w2.chg hC1 (fun z => absurd (hcx _ z) (Nat.not_le_of_lt w2l))
  have w3 := w3.chg hC1 (fun z => absurd (hcx _ z) (Nat.not_le_of_lt w3l))
  have w4 := w4.chg hC1 (fun z => absurd (hcx _ z) (Nat.not_le_of_lt w4l))
  have hE := hE.chgx hC1 hcx
  refine lv_astore_n (lv' := [(1, .ref _), (0, .ref _)]) hx hb dX4_twin_7 rfl hl (by decide) rfl (fun ls hl => ?_)
  refine lv_aload_n hx hb dX4_twin_8 rfl (lv_at hl 0 rfl) ?_
  refine lv_aload_n hx hb dX4_twin_9 rfl (lv_at hl 1 rfl) ?_
  refine r_get (C := RX4) (T := TX4) (N := 4) (ci := 4) X in_X4 rfl 0 (Nat.le_of_ble_eq_true rfl) q189 (fun _ h => h) o0 rfl dX4_twin_10 ?_
  obtain ⟨c1, hc1⟩ : ∃ b, H.size = b := ⟨_, rfl⟩
  have sz_c1 : s.heap.size ≤ c1 := by rw [← hc1]; exact hE.1
  have lo_c1 : gLo g ≤ c1 := Nat.le_trans X.2.2.2.2.2.2.2.1.2.1 sz_c1
  have ne_a_c1 : a ≠ c1 := Nat.ne_of_lt (by rw [← hc1]; exact o0.lt)
  have ne_a1_c1 : a1 ≠ c1 := Nat.ne_of_lt (by rw [← hc1]; exact w1.lt)
  have ne_a2_c1 : a2 ≠ c1 := Nat.ne_of_lt (by rw [← hc1]; exact w2.lt)
  have ne_a3_c1 : a3 ≠ c1 := Nat.ne_of_lt (by rw [← hc1]; exact w3.lt)
  have ne_a4_c1 : a4 ≠ c1 := Nat.ne_of_lt (by rw [← hc1]; exact w4.lt)
  have ne_b1_c1 : b1 ≠ c1 := Nat.ne_of_lt (by rw [← hc1]; exact ha_b1.lt)
  refine r_clone X hl w1 q428 (Nat.le_of_ble_eq_true rfl) (Nat.le_of_ble_eq_true rfl) (by show _ + 1 ≤ 9; omega) (by show _ + 4 ≤ 36; omega) dX4_twin_13 (fun H ha_c1 hE_c1 hz_c1 => ?_)
  rw [hc1] at ha_c1 hz_c1 ⊢
  have o0 := o0.ext hE_c1
  have w1 := w1.ext hE_c1
  have w2 := w2.ext hE_c1
  have w3 := w3.ext hE_c1
  have w4 := w4.ext hE_c1
  have ha_b1 := ha_b1.ext hE_c1
  have hE := hE.trans hE_c1
  refine r_castI X ha_c1 q434 dX4_twin_16 ?_
  refine r_put (C := RX4) (T := TX4) (N := 4) (ci := 4) X in_X4 tyX4 tyX4_ok nmX4 rfl 0 (Nat.le_of_ble_eq_true rfl) q189 (fun _ h => h) rfl hL ha_b1 lo_b1 rfl rfl (Nat.le_of_ble_eq_true rfl) dX4_twin_19 (fun H locs hL h1 h2 => ?_)
  have ha_b1 : Ob g b1 4 [.ref c1, .ref t2, .ref t3, .ref t4] H := h1
  have o0 := o0.on h2 ne_a_b1
  have w1 := w1.on h2 ne_a1_b1
  have w2 := w2.on h2 ne_a2_b1
  have w3 := w3.on h2 ne_a3_b1
  have w4 := w4.on h2 ne_a4_b1
  have ha_c1 := ha_c1.on h2 (Ne.symm ne_b1_c1)
  have hE := hE.on h2 sz_b1
  refine lv_aload_n hx hb dX4_twin_22 rfl (lv_at hl 0 rfl) ?_
  refine lv_aload_n hx hb dX4_twin_23 rfl (lv_at hl 1 rfl) ?_
  refine r_get (C := RX4) (T := TX4) (N := 4) (ci := 4) X in_X4 rfl 1 (Nat.le_of_ble_eq_true rfl) q192 (fun _ h => h) o0 rfl dX4_twin_24 ?_
  obtain ⟨c2, hc2⟩ : ∃ b, H.size = b := ⟨_, rfl⟩
  have sz_c2 : s.heap.size ≤ c2 := by rw [← hc2]; exact hE.1
  have lo_c2 : gLo g ≤ c2 := Nat.le_trans X.2.2.2.2.2.2.2.1.2.1 sz_c2
  have ne_a_c2 : a ≠ c2 := Nat.ne_of_lt (by rw [← hc2]; exact o0.lt)
  have ne_a1_c2 : a1 ≠ c2 := Nat.ne_of_lt (by rw [← hc2]; exact w1.lt)
  have ne_a2_c2 : a2 ≠ c2 := Nat.ne_of_lt (by rw [← hc2]; exact w2.lt)
  have ne_a3_c2 : a3 ≠ c2 := Nat.ne_of_lt (by rw [← hc2]; exact w3.lt)
  have ne_a4_c2 : a4 ≠ c2 := Nat.ne_of_lt (by rw [← hc2]; exact w4.lt)
  have ne_b1_c2 : b1 ≠ c2 := Nat.ne_of_lt (by rw [← hc2]; exact ha_b1.lt)
  have ne_c1_c2 : c1 ≠ c2 := Nat.ne_of_lt (by rw [← hc2]; exact ha_c1.lt)
  refine r_clone X hl w2 q428 (Nat.le_of_ble_eq_true rfl) (Nat.le_of_ble_eq_true rfl) (by show _ + 1 ≤ 9; omega) (by show _ + 4 ≤ 36; omega) dX4_twin_27 (fun H ha_c2 hE_c2 hz_c2 => ?_)
  rw [hc2] at ha_c2 hz_c2 ⊢
  have o0 := o0.ext hE_c2
  have w1 := w1.ext hE_c2
  have w2 := w2.ext hE_c2
  have w3 := w3.ext hE_c2
  have w4 := w4.ext hE_c2
  have ha_b1 := ha_b1.ext hE_c2
  have ha_c1 := ha_c1.ext hE_c2
  have hE := hE.trans hE_c2
  refine r_castI X ha_c2 q434 dX4_twin_30 ?_
  refine r_put (C := RX4) (T := TX4) (N := 4) (ci := 4) X in_X4 tyX4 tyX4_ok nmX4 rfl 1 (Nat.le_of_ble_eq_true rfl) q192 (fun _ h => h) rfl hL ha_b1 lo_b1 rfl rfl (Nat.le_of_ble_eq_true rfl) dX4_twin_33 (fun H locs hL h1 h2 => ?_)
  have ha_b1 : Ob g b1 4 [.ref c1, .ref c2, .ref t3, .ref t4] H := h1
  have o0 := o0.on h2 ne_a_b1
  have w1 := w1.on h2 ne_a1_b1
  have w2 := w2.on h2 ne_a2_b1
  have w3 := w3.on h2 ne_a3_b1
  have w4 := w4.on h2 ne_a4_b1
  have ha_c1 := ha_c1.on h2 (Ne.symm ne_b1_c1)
  have ha_c2 := ha_c2.on h2 (Ne.symm ne_b1_c2)
  have hE := hE.on h2 sz_b1
  refine lv_aload_n hx hb dX4_twin_36 rfl (lv_at hl 0 rfl) ?_
  refine lv_aload_n hx hb dX4_twin_37 rfl (lv_at hl 1 rfl) ?_
  refine r_get (C := RX4) (T := TX4) (N := 4) (ci := 4) X in_X4 rfl 2 (Nat.le_of_ble_eq_true rfl) q195 (fun _ h => h) o0 rfl dX4_twin_38 ?_
  obtain ⟨c3, hc3⟩ : ∃ b, H.size = b := ⟨_, rfl⟩
  have sz_c3 : s.heap.size ≤ c3 := by rw [← hc3]; exact hE.1
  have lo_c3 : gLo g ≤ c3 := Nat.le_trans X.2.2.2.2.2.2.2.1.2.1 sz_c3
  have ne_a_c3 : a ≠ c3 := Nat.ne_of_lt (by rw [← hc3]; exact o0.lt)
  have ne_a1_c3 : a1 ≠ c3 := Nat.ne_of_lt (by rw [← hc3]; exact w1.lt)
  have ne_a2_c3 : a2 ≠ c3 := Nat.ne_of_lt (by rw [← hc3]; exact w2.lt)
  have ne_a3_c3 : a3 ≠ c3 := Nat.ne_of_lt (by rw [← hc3]; exact w3.lt)
  have ne_a4_c3 : a4 ≠ c3 := Nat.ne_of_lt (by rw [← hc3]; exact w4.lt)
  have ne_b1_c3 : b1 ≠ c3 := Nat.ne_of_lt (by rw [← hc3]; exact ha_b1.lt)
  have ne_c1_c3 : c1 ≠ c3 := Nat.ne_of_lt (by rw [← hc3]; exact ha_c1.lt)
  have ne_c2_c3 : c2 ≠ c3 := Nat.ne_of_lt (by rw [← hc3]; exact ha_c2.lt)
  refine r_clone X hl w3 q428 (Nat.le_of_ble_eq_true rfl) (Nat.le_of_ble_eq_true rfl) (by show _ + 1 ≤ 9; omega) (by show _ + 4 ≤ 36; omega) dX4_twin_41 (fun H ha_c3 hE_c3 hz_c3 => ?_)
  rw [hc3] at ha_c3 hz_c3 ⊢
  have o0 := o0.ext hE_c3
  have w1 := w1.ext hE_c3
  have w2 := w2.ext hE_c3
  have w3 := w3.ext hE_c3
  have w4 := w4.ext hE_c3
  have ha_b1 := ha_b1.ext hE_c3
  have ha_c1 := ha_c1.ext hE_c3
  have ha_c2 := ha_c2.ext hE_c3
  have hE := hE.trans hE_c3
  refine r_castI X ha_c3 q434 dX4_twin_44 ?_
  refine r_put (C := RX4) (T := TX4) (N := 4) (ci := 4) X in_X4 tyX4 tyX4_ok nmX4 rfl 2 (Nat.le_of_ble_eq_true rfl) q195 (fun _ h => h) rfl hL ha_b1 lo_b1 rfl rfl (Nat.le_of_ble_eq_true rfl) dX4_twin_47 (fun H locs hL h1 h2 => ?_)
  have ha_b1 : Ob g b1 4 [.ref c1, .ref c2, .ref c3, .ref t4] H := h1
  have o0 := o0.on h2 ne_a_b1
  have w1 := w1.on h2 ne_a1_b1
  have w2 := w2.on h2 ne_a2_b1
  have w3 := w3.on h2 ne_a3_b1
  have w4 := w4.on h2 ne_a4_b1
  have ha_c1 := ha_c1.on h2 (Ne.symm ne_b1_c1)
  have ha_c2 := ha_c2.on h2 (Ne.symm ne_b1_c2)
  have ha_c3 := ha_c3.on h2 (Ne.symm ne_b1_c3)
  have hE := hE.on h2 sz_b1
  refine lv_aload_n hx hb dX4_twin_50 rfl (lv_at hl 0 rfl) ?_
  refine lv_aload_n hx hb dX4_twin_51 rfl (lv_at hl 1 rfl) ?_
  refine r_get (C := RX4) (T := TX4) (N := 4) (ci := 4) X in_X4 rfl 3 (Nat.le_of_ble_eq_true rfl) q198 (fun _ h => h) o0 rfl dX4_twin_52 ?_
  obtain ⟨c4, hc4⟩ : ∃ b, H.size = b := ⟨_, rfl⟩
  have sz_c4 : s.heap.size ≤ c4 := by rw [← hc4]; exact hE.1
  have lo_c4 : gLo g ≤ c4 := Nat.le_trans X.2.2.2.2.2.2.2.1.2.1 sz_c4
  have ne_a_c4 : a ≠ c4 := Nat.ne_of_lt (by rw [← hc4]; exact o0.lt)
  have ne_a1_c4 : a1 ≠ c4 := Nat.ne_of_lt (by rw [← hc4]; exact w1.lt)
  have ne_a2_c4 : a2 ≠ c4 := Nat.ne_of_lt (by rw [← hc4]; exact w2.lt)
  have ne_a3_c4 : a3 ≠ c4 := Nat.ne_of_lt (by rw [← hc4]; exact w3.lt)
  have ne_a4_c4 : a4 ≠ c4 := Nat.ne_of_lt (by rw [← hc4]; exact w4.lt)
  have ne_b1_c4 : b1 ≠ c4 := Nat.ne_of_lt (by rw [← hc4]; exact ha_b1.lt)
  have ne_c1_c4 : c1 ≠ c4 := Nat.ne_of_lt (by rw [← hc4]; exact ha_c1.lt)
  have ne_c2_c4 : c2 ≠ c4 := Nat.ne_of_lt (by rw [← hc4]; exact ha_c2.lt)
  have ne_c3_c4 : c3 ≠ c4 := Nat.ne_of_lt (by rw [← hc4]; exact ha_c3.lt)
  refine r_clone X hl w4 q428 (Nat.le_of_ble_eq_true rfl) (Nat.le_of_ble_eq_true rfl) (by show _ + 1 ≤ 9; omega) (by show _ + 4 ≤ 36; omega) dX4_twin_55 (fun H ha_c4 hE_c4 hz_c4 => ?_)
  rw [hc4] at ha_c4 hz_c4 ⊢
  have o0 := o0.ext hE_c4
  have w1 := w1.ext hE_c4
  have w2 := w2.ext hE_c4
  have w3 := w3.ext hE_c4
  have w4 := w4.ext hE_c4
  have ha_b1 := ha_b1.ext hE_c4
  have ha_c1 := ha_c1.ext hE_c4
  have ha_c2 := ha_c2.ext hE_c4
  have ha_c3 := ha_c3.ext hE_c4
  have hE := hE.trans hE_c4
  refine r_castI X ha_c4 q434 dX4_twin_58 ?_
  refine r_put (C := RX4) (T := TX4) (N := 4) (ci := 4) X in_X4 tyX4 tyX4_ok nmX4 rfl 3 (Nat.le_of_ble_eq_true rfl) q198 (fun _ h => h) rfl hL ha_b1 lo_b1 rfl rfl (Nat.le_of_ble_eq_true rfl) dX4_twin_61 (fun H locs hL h1 h2 => ?_)
  have ha_b1 : Ob g b1 4 [.ref c1, .ref c2, .ref c3, .ref c4] H := h1
  have o0 := o0.on h2 ne_a_b1
  have w1 := w1.on h2 ne_a1_b1
  have w2 := w2.on h2 ne_a2_b1
  have w3 := w3.on h2 ne_a3_b1
  have w4 := w4.on h2 ne_a4_b1
  have ha_c1 := ha_c1.on h2 (Ne.symm ne_b1_c1)
  have ha_c2 := ha_c2.on h2 (Ne.symm ne_b1_c2)
  have ha_c3 := ha_c3.on h2 (Ne.symm ne_b1_c3)
  have ha_c4 := ha_c4.on h2 (Ne.symm ne_b1_c4)
  have hE := hE.on h2 sz_b1
  refine lv_aload_n hx hb dX4_twin_64 rfl (lv_at hl 0 rfl) ?_
  exact r_aret X hL rfl (Or.inl ⟨_, rfl⟩) (Or.inr ⟨_, rfl⟩) dX4_twin_65 (by omega) (by omega) ⟨b1, ⟨c1, c2, c3, c4, ⟨sz_b1, sz_c1, sz_c2, sz_c3, sz_c4⟩, ⟨lo_b1, lo_c1, lo_c2, lo_c3, lo_c4⟩, ⟨ne_c1_c2, ne_c1_c3, ne_c1_c4, ne_c2_c3, ne_c2_c4, ne_c3_c4, ne_b1_c1, ne_b1_c2, ne_b1_c3, ne_b1_c4⟩, ha_b1, ha_c1, ha_c2, ha_c3, ha_c4⟩, rfl, hE⟩
theorem vb_X4_twin : VB yX4_twin cX4_twin 2 (some (.object "OfferSky$Sides")) 0 := ⟨q423, q424, q105, q425, ⟨by decide, by decide, by decide +kernel⟩⟩

theorem StR.mk1 {g : GT} {P I PB : Nat → Prop} {ro : Nat → Int32} {n z : Nat} {x : Nat → Nat} {a b sd : Nat} {v1 v2 : Int32} {H : Heap} (hPa : P a) (lo : gLo g ≤ a) (haz : a < z) (hz : ∀ q, z ≤ q → P q) (ob : Ob g a 2 [.ref b, .ref sd, .int v1, .int v2] H) (e1 : v1 = ro 177) (e2 : v2 = ro 178) (hb : BagR g PB (XL x (List.range n)) n b H) (hB : ∀ q, PB q → P q ∧ q ≠ a ∧ q < z) (hs : SidR g (fun q => z ≤ q) ro sd H) (ho : ∀ j, j < n → OffR g I (mv ro j) (x j) H) (hi : ∀ i j, i < n → j < n → x i = x j → i = j) (h160 : ro 160 = nI n) (hn : n ≤ 40) : StR g P I ro n x a H := by
  subst e1 e2
  refine ⟨b, sd, fun q => z ≤ q ∧ q < H.size, hPa, lo, fun h => by omega, fun q hq => ⟨hz q hq.1, hq.2⟩, ob, hb.to (fun j hj => by unfold XL; rw [rng_get hj]) (fun q hq => ⟨(hB q hq).1, (hB q hq).2.1, fun h => by have := (hB q hq).2.2; omega⟩), hs.to (fun _ _ _ => rfl) (fun q h1 h2 => ⟨h1, h2⟩), ho, hi, h160, hn⟩
/-- what queries see of a state -/
theorem StR.q {g : GT} {P I : Nat → Prop} {ro : Nat → Int32} {n : Nat} {x : Nat → Nat} {a : Nat} {H : Heap} (h : StR g P I ro n x a H) : StQ g ro n x a H := by
  obtain ⟨b, sd, S, h1, h2, h3, h4, h5, h6, h7, h8, h9, h10, h11⟩ := h
  exact ⟨b, sd, _, S, h5, by rw [rng_len]; exact h6.to (fun j hj => by unfold XL; rw [rng_get hj]) (fun _ z => z), h7, fun i hi => ⟨I, h8 i (List.mem_range.mp hi)⟩, h9⟩
theorem StR.facts {g : GT} {P I : Nat → Prop} {ro : Nat → Int32} {n : Nat} {x : Nat → Nat} {a : Nat} {H : Heap} (h : StR g P I ro n x a H) : P a ∧ gLo g ≤ a ∧ (∀ j, j < n → OffR g I (mv ro j) (x j) H) ∧ (∀ i j, i < n → j < n → x i = x j → i = j) ∧ ro 160 = nI n ∧ n ≤ 40 := by
  obtain ⟨b, sd, S, h1, h2, h3, h4, h5, h6, h7, h8, h9, h10, h11⟩ := h
  exact ⟨h1, h2, h8, h9, h10, h11⟩

set_option maxRecDepth 100000 in
set_option maxHeartbeats 4000000 in
theorem ct_X2_init (l : Launch) (g : GT) (a : Nat) (l1 : gLo g ≤ a) : Ct l g yX2_init cX2_init 1 none 6 8 40 [.ref a] (Ob g a 2 [.null, .null, .int 0, .int 0]) (fun r H H1 => r = none ∧ (∀ (I : Nat → Prop) (x : Nat → Nat), StR g (fun q => q = a ∨ H.size ≤ q) I row0 0 x a H1) ∧ Chg (fun q => q = a ∨ H.size ≤ q) H H1) := by
  refine Ct.of (by decide) (Nat.le_of_ble_eq_true rfl) ?_
  intro p e s m args below meth c X hP ls hl
  have hx := X.1
  have hb := X.2.1
  have hKV := X.2.2.2.2.2.2.2.1.1
  have hL : ∀ q ∈ ([] : List Loc), gLo g ≤ q.base := fun _ h => by cases h
  have ob := hP
  have hal := ob.lt
  have hl : lv_has ls 1 [(0, .ref a)] := hl
  have hC : Chg (fun q => q = a ∨ s.heap.size ≤ q) s.heap s.heap := Chg.rfl'
  have hgE := hKV.gE
  refine lv_aload_n hx hb dX2_init_0 rfl (lv_at hl 0 rfl) ?_
  refine W.objInit hx hb X.2.2.2.1 (X.2.2.2.2.1 _ q145) (X.2.2.2.2.1 _ q138) (X.2.2.2.2.1 _ q139) rfl (hl.1.trans X.2.2.1.symm) rfl dX2_init_1 (Nat.le_of_ble_eq_true rfl) (Nat.le_of_ble_eq_true rfl) ?_
  refine lv_aload_n hx hb dX2_init_4 rfl (lv_at hl 0 rfl) ?_
  obtain ⟨b1, hb1⟩ : ∃ b, s.heap.size = b := ⟨_, rfl⟩
  have sz_b1 : s.heap.size ≤ b1 := by rw [← hb1]; exact Nat.le_refl _
  have lo_b1 : gLo g ≤ b1 := Nat.le_trans X.2.2.2.2.2.2.2.1.2.1 sz_b1
  have p_b1 : (fun q => q = a ∨ s.heap.size ≤ q) b1 := (fun q hq => Or.inr hq : ∀ q, s.heap.size ≤ q → (fun q => q = a ∨ s.heap.size ≤ q) q) b1 sz_b1
  have ne_a_b1 : a ≠ b1 := Nat.ne_of_lt (by rw [← hb1]; exact ob.lt)
  refine r_new (C := RX3) (T := TX3) (N := 1) (ci := 3) X in_X3 tyX3 tyX3_ok q146 q147 q101 rfl (fs := [.null]) (fun j hj => by rcases j with _ | _ | _ | _ | _ | j <;> first | rfl | omega) (by show _ + 1 ≤ 8; omega) (by show _ + 1 ≤ 40; omega) dX2_init_5 (fun H ha_b1 hE_b1 hz_b1 => ?_)
  rw [hb1] at ha_b1 hz_b1 ⊢
  have ob := ob.ext hE_b1
  have hC := hC.trans hE_b1.chg
  refine lv_dup hx hb dX2_init_8 rfl ?_
  refine Ct.callIN (ct_X3_init l g (fun q => b1 ≤ q) b1 (Nat.le_refl _) lo_b1) X hL hl ib_X3_init q148 rfl rfl (Nat.le_of_ble_eq_true rfl) dX2_init_9 ⟨Nat.le_of_ble_eq_true rfl, Nat.le_of_ble_eq_true rfl⟩ (by omega) (by omega) ⟨ha_b1, fun q hq => by have := hz_b1; omega⟩ (fun r H locs hL hp => ?_)
  obtain ⟨al, rfl, ha_b1, hK, hC1⟩ := hp
  have ob := ob.chg hC1 (by omega)
  have hC := hC.trans (hC1.mono (fun q hq => Or.inr (Nat.le_trans sz_b1 hq)))
  have hbg : BagR g (fun q => b1 ≤ q) (XL (fun j => j) (List.range 0)) 0 b1 H := ⟨al, Nat.le_refl _, lo_b1, ha_b1, (hK _).lst⟩
  refine r_put (C := RX2) (T := TX2) (N := 4) (ci := 2) X in_X2 tyX2 tyX2_ok nmX2 rfl 0 (Nat.le_of_ble_eq_true rfl) q210 (fun _ h => h) rfl hL ob l1 rfl rfl (Nat.le_of_ble_eq_true rfl) dX2_init_12 (fun H locs hL h1 h2 => ?_)
  have ob : Ob g a 2 [.ref b1, .null, .int 0, .int 0] H := h1
  have hC := hC.trans (h2.chg (Or.inl rfl))
  have hbg := (hbg.keep (Q := fun q => q = a) (h2.chg rfl) (fun q hq z => by omega) (by omega)).bnd
  refine lv_aload_n hx hb dX2_init_15 rfl (lv_at hl 0 rfl) ?_
  obtain ⟨b2, hb2⟩ : ∃ b, H.size = b := ⟨_, rfl⟩
  have sz_b2 : s.heap.size ≤ b2 := by rw [← hb2]; exact hC.1
  have lo_b2 : gLo g ≤ b2 := Nat.le_trans X.2.2.2.2.2.2.2.1.2.1 sz_b2
  have p_b2 : (fun q => q = a ∨ s.heap.size ≤ q) b2 := (fun q hq => Or.inr hq : ∀ q, s.heap.size ≤ q → (fun q => q = a ∨ s.heap.size ≤ q) q) b2 sz_b2
  have ne_a_b2 : a ≠ b2 := Nat.ne_of_lt (by rw [← hb2]; exact ob.lt)
  refine r_new (C := RX4) (T := TX4) (N := 4) (ci := 4) X in_X4 tyX4 tyX4_ok q183 q184 q105 rfl (fs := [.null, .null, .null, .null]) (fun j hj => by rcases j with _ | _ | _ | _ | _ | j <;> first | rfl | omega) (by show _ + 1 ≤ 8; omega) (by show _ + 4 ≤ 40; omega) dX2_init_16 (fun H ha_b2 hE_b2 hz_b2 => ?_)
  rw [hb2] at ha_b2 hz_b2 ⊢
  have ob := ob.ext hE_b2
  have hC := hC.trans hE_b2.chg
  have hbg := hbg.ext hE_b2
  have hoba := ob.lt
  refine lv_dup hx hb dX2_init_19 rfl ?_
  refine Ct.callI (ct_X4_init l g b2 lo_b2) X hL hl ib_X4_init q185 rfl rfl (Nat.le_of_ble_eq_true rfl) dX2_init_20 ⟨Nat.le_of_ble_eq_true rfl, Nat.le_of_ble_eq_true rfl⟩ (by omega) (by omega) ha_b2 (fun r H locs hL hp => ?_)
  obtain ⟨rfl, hsd, hC1⟩ := hp
  have hz2 := hz_b2
  have ob := ob.chg hC1 (by omega)
  have hbg := hbg.keep hC1 (fun q hq z => by have := hq.2; omega) (by omega)
  have hC := hC.trans (hC1.mono (fun q hq => Or.inr (by omega)))
  refine r_put (C := RX2) (T := TX2) (N := 4) (ci := 2) X in_X2 tyX2 tyX2_ok nmX2 rfl 1 (Nat.le_of_ble_eq_true rfl) q212 (fun _ h => h) rfl hL ob l1 rfl rfl (Nat.le_of_ble_eq_true rfl) dX2_init_23 (fun H locs hL h1 h2 => ?_)
  have ob : Ob g a 2 [.ref b1, .ref b2, .int 0, .int 0] H := h1
  have hC := hC.trans (h2.chg (Or.inl rfl))
  have hbg := hbg.keep (Q := fun q => q = a) (h2.chg rfl) (fun q hq z => by have := hq.1; omega) (by omega)
  have hsd := hsd.keep (Q := fun q => q = a) (h2.chg rfl) (fun q hq z => by omega)
  exact r_vret X hL dX2_init_26 (by omega) (by omega) ⟨rfl, fun I x => StR.mk1 (z := b2) (n := 0) (v1 := 0) (v2 := 0) (Or.inl rfl) l1 (by omega) (fun q hq => Or.inr (by omega)) ob rfl rfl (hbg.to (fun j hj => absurd hj (Nat.not_lt_zero _)) (fun _ z => z)) (fun q hq => ⟨Or.inr (by have := hq.1; omega), by have := hq.1; omega, by have := hq.2; omega⟩) (hsd.to (fun _ _ _ => rfl) (fun q hq _ => by omega)) (fun j hj => absurd hj (Nat.not_lt_zero _)) (fun i j hi => absurd hi (Nat.not_lt_zero _)) rfl (by omega), hC⟩
theorem ib_X2_init : IB yX2_init cX2_init 1 0 := ⟨q143, q100, q144, rfl, ⟨by decide, by decide, by decide +kernel⟩⟩

set_option maxRecDepth 100000 in
set_option maxHeartbeats 4000000 in
theorem ct_X2_twin (l : Launch) (g : GT) (P I : Nat → Prop) (ro : Nat → Int32) (n : Nat) (x : Nat → Nat) (a : Nat)  : Ct l g yX2_twin cX2_twin 2 (some (.object "OfferSky$State")) 13 30 260 [.ref a] (StR g P I ro n x a) (fun r H H1 => ∃ t, StR g (fun q => H.size ≤ q) I ro n x t H1 ∧ r = some (.ref t) ∧ Ext H H1) := by
  refine Ct.of (by decide) (Nat.le_of_ble_eq_true rfl) ?_
  intro p e s m args below meth c X hP ls hl
  have hx := X.1
  have hb := X.2.1
  have hKV := X.2.2.2.2.2.2.2.1.1
  have hL : ∀ q ∈ ([] : List Loc), gLo g ≤ q.base := fun _ h => by cases h
  obtain ⟨hPa, hloa, hofs, hinj, h160, hn⟩ := hP.facts
  have hst := hP.q
  obtain ⟨sb, sd, PB, PS, ob, hbg, hsd, hof, -⟩ := hst
  have hl : lv_has ls 2 [(0, .ref a)] := hl
  have hE : Ext s.heap s.heap := Ext.rfl'
  have hofs0 := hofs
  have hof0 := hof
  have hbg0 := hbg
  have hsd0 := hsd
  have ob0 := ob
  have hgE := hKV.gE
  obtain ⟨b1, hb1⟩ : ∃ b, s.heap.size = b := ⟨_, rfl⟩
  have sz_b1 : s.heap.size ≤ b1 := by rw [← hb1]; exact Nat.le_refl _
  have lo_b1 : gLo g ≤ b1 := Nat.le_trans X.2.2.2.2.2.2.2.1.2.1 sz_b1
  have ne_a_b1 : a ≠ b1 := Nat.ne_of_lt (by rw [← hb1]; exact ob.lt)
  refine r_new (C := RX2) (T := TX2) (N := 4) (ci := 2) X in_X2 tyX2 tyX2_ok q330 q141 q100 rfl (fs := [.null, .null, .int 0, .int 0]) (fun j hj => by rcases j with _ | _ | _ | _ | _ | j <;> first | rfl | omega) (by show _ + 1 ≤ 30; omega) (by show _ + 4 ≤ 260; omega) dX2_twin_0 (fun H ha_b1 hE_b1 hz_b1 => ?_)
  rw [hb1] at ha_b1 hz_b1 ⊢
  have ob := ob.ext hE_b1
  have hbg := hbg.ext hE_b1
  have hsd := hsd.ext hE_b1
  have hof := hof.ext hE_b1
  have hE := hE.trans hE_b1
  refine lv_dup hx hb dX2_twin_3 rfl ?_
  refine Ct.callI (ct_X2_init l g b1 lo_b1) X hL hl ib_X2_init q331 rfl rfl (Nat.le_of_ble_eq_true rfl) dX2_twin_4 ⟨Nat.le_of_ble_eq_true rfl, Nat.le_of_ble_eq_true rfl⟩ (by omega) (by omega) ha_b1 (fun r H locs hL hp => ?_)
  obtain ⟨rfl, hti, hC1⟩ := hp
  have hE := hE.chgx hC1 (fun q hq => hq.elim (fun z => z ▸ sz_b1) (fun z => Nat.le_trans hE.1 z))
  obtain ⟨tb, ts, S1, -, -, -, -, ha_b1, -⟩ := hti (fun _ => True) x
  have ob := ob0.ext hE
  have hbg := hbg0.ext hE
  have hof := hof0.ext hE
  have hsd := hsd0.ext hE
  refine lv_astore_n (lv' := [(1, .ref _), (0, .ref _)]) hx hb dX2_twin_7 rfl hl (by decide) rfl (fun ls hl => ?_)
  refine lv_aload_n hx hb dX2_twin_8 rfl (lv_at hl 0 rfl) ?_
  refine lv_aload_n hx hb dX2_twin_9 rfl (lv_at hl 1 rfl) ?_
  refine r_get (C := RX2) (T := TX2) (N := 4) (ci := 2) X in_X2 rfl 0 (Nat.le_of_ble_eq_true rfl) q210 (fun _ h => h) ob rfl dX2_twin_10 ?_
  have hb1l := ha_b1.lt
  refine Ct.callV (ct_X3_copy l g PB x (List.range n) sb (by rw [rng_len]; exact hn)) X hL hl vb_X3_copy q332 (hbg.recv hKV) rfl rfl (Nat.le_of_ble_eq_true rfl) dX2_twin_13 ⟨Nat.le_of_ble_eq_true rfl, Nat.le_of_ble_eq_true rfl⟩ (by omega) (by omega) ⟨hbg, hof.el⟩ (fun r H locs hL hp => ?_)
  obtain ⟨cb, hcb, rfl, hE1⟩ := hp
  rw [rng_len] at hcb
  have hE := hE.trans hE1
  have ob := ob.ext hE1
  have ha_b1 := ha_b1.ext hE1
  have hsd := hsd.ext hE1
  have hcb := hcb.bnd
  refine r_put (C := RX2) (T := TX2) (N := 4) (ci := 2) X in_X2 tyX2 tyX2_ok nmX2 rfl 0 (Nat.le_of_ble_eq_true rfl) q210 (fun _ h => h) rfl hL ha_b1 lo_b1 rfl rfl (Nat.le_of_ble_eq_true rfl) dX2_twin_16 (fun H locs hL h1 h2 => ?_)
  have ha_b1 : Ob g b1 2 [.ref cb, .ref ts, .int (row0 177), .int (row0 178)] H := h1
  have ob := ob.on h2 ne_a_b1
  have hE := hE.on h2 sz_b1
  have hsd := hsd0.ext hE
  have hcb := hcb.keep (Q := fun q => q = b1) (h2.chg rfl) (fun q hq z => by have := hq.1; omega) (by omega)
  have hz1 := h2.1
  refine lv_aload_n hx hb dX2_twin_19 rfl (lv_at hl 0 rfl) ?_
  refine lv_aload_n hx hb dX2_twin_20 rfl (lv_at hl 1 rfl) ?_
  refine r_get (C := RX2) (T := TX2) (N := 4) (ci := 2) X in_X2 rfl 1 (Nat.le_of_ble_eq_true rfl) q212 (fun _ h => h) ob rfl dX2_twin_21 ?_
  have hb1l2 := ha_b1.lt
  obtain ⟨z, hz⟩ : ∃ z, H.size = z := ⟨_, rfl⟩
  have hcb := hcb.to (Q := fun q => b1 < q ∧ q < z) (fun _ _ => rfl) (fun q hq => ⟨by have := hq.1; omega, by have := hq.2; omega⟩)
  have hsz : s.heap.size ≤ z := by rw [← hz]; exact hE.1
  refine Ct.callV (ct_X4_twin l g PS ro sd ) X hL hl vb_X4_twin q422 (hsd.recv hKV) rfl rfl (Nat.le_of_ble_eq_true rfl) dX2_twin_24 ⟨Nat.le_of_ble_eq_true rfl, Nat.le_of_ble_eq_true rfl⟩ (by omega) (by omega) hsd (fun r H locs hL hp => ?_)
  obtain ⟨td, htd, rfl, hE1⟩ := hp
  rw [hz] at htd
  have hE := hE.trans hE1
  have ob := ob.ext hE1
  have ha_b1 := ha_b1.ext hE1
  have hcb := hcb.ext hE1
  refine r_put (C := RX2) (T := TX2) (N := 4) (ci := 2) X in_X2 tyX2 tyX2_ok nmX2 rfl 1 (Nat.le_of_ble_eq_true rfl) q212 (fun _ h => h) rfl hL ha_b1 lo_b1 rfl rfl (Nat.le_of_ble_eq_true rfl) dX2_twin_27 (fun H locs hL h1 h2 => ?_)
  have ha_b1 : Ob g b1 2 [.ref cb, .ref td, .int (row0 177), .int (row0 178)] H := h1
  have ob := ob.on h2 ne_a_b1
  have hE := hE.on h2 sz_b1
  have hcb := hcb.keep (Q := fun q => q = b1) (h2.chg rfl) (fun q hq z => by have := hq.1; omega) (by omega)
  have htd := htd.keep (Q := fun q => q = b1) (h2.chg rfl) (fun q hq z => by omega)
  refine lv_aload_n hx hb dX2_twin_30 rfl (lv_at hl 0 rfl) ?_
  refine lv_aload_n hx hb dX2_twin_31 rfl (lv_at hl 1 rfl) ?_
  refine r_get (C := RX2) (T := TX2) (N := 4) (ci := 2) X in_X2 rfl 2 (Nat.le_of_ble_eq_true rfl) q214 (fun _ h => h) ob rfl dX2_twin_32 ?_
  refine r_put (C := RX2) (T := TX2) (N := 4) (ci := 2) X in_X2 tyX2 tyX2_ok nmX2 rfl 2 (Nat.le_of_ble_eq_true rfl) q214 (fun _ h => h) rfl hL ha_b1 lo_b1 rfl rfl (Nat.le_of_ble_eq_true rfl) dX2_twin_35 (fun H locs hL h1 h2 => ?_)
  have ha_b1 : Ob g b1 2 [.ref cb, .ref td, .int (ro 177), .int (row0 178)] H := h1
  have ob := ob.on h2 ne_a_b1
  have hE := hE.on h2 sz_b1
  have hcb := hcb.keep (Q := fun q => q = b1) (h2.chg rfl) (fun q hq z => by have := hq.1; omega) (by omega)
  have htd := htd.keep (Q := fun q => q = b1) (h2.chg rfl) (fun q hq z => by omega)
  refine lv_aload_n hx hb dX2_twin_38 rfl (lv_at hl 0 rfl) ?_
  refine lv_aload_n hx hb dX2_twin_39 rfl (lv_at hl 1 rfl) ?_
  refine r_get (C := RX2) (T := TX2) (N := 4) (ci := 2) X in_X2 rfl 3 (Nat.le_of_ble_eq_true rfl) q216 (fun _ h => h) ob rfl dX2_twin_40 ?_
  refine r_put (C := RX2) (T := TX2) (N := 4) (ci := 2) X in_X2 tyX2 tyX2_ok nmX2 rfl 3 (Nat.le_of_ble_eq_true rfl) q216 (fun _ h => h) rfl hL ha_b1 lo_b1 rfl rfl (Nat.le_of_ble_eq_true rfl) dX2_twin_43 (fun H locs hL h1 h2 => ?_)
  have ha_b1 : Ob g b1 2 [.ref cb, .ref td, .int (ro 177), .int (ro 178)] H := h1
  have ob := ob.on h2 ne_a_b1
  have hE := hE.on h2 sz_b1
  have hcb := hcb.keep (Q := fun q => q = b1) (h2.chg rfl) (fun q hq z => by have := hq.1; omega) (by omega)
  have htd := htd.keep (Q := fun q => q = b1) (h2.chg rfl) (fun q hq z => by omega)
  refine lv_aload_n hx hb dX2_twin_46 rfl (lv_at hl 0 rfl) ?_
  exact r_aret X hL rfl (Or.inl ⟨_, rfl⟩) (Or.inr ⟨_, rfl⟩) dX2_twin_47 (by omega) (by omega) ⟨b1, StR.mk1 (z := z) sz_b1 lo_b1 (by omega) (fun q hq => Nat.le_trans hsz hq) ha_b1 rfl rfl hcb (fun q hq => ⟨by have := hq.1; omega, by have := hq.1; omega, hq.2⟩) htd (fun j hj => (hofs j hj).ext hE) hinj h160 hn, rfl, hE⟩
theorem vb_X2_twin : VB yX2_twin cX2_twin 2 (some (.object "OfferSky$State")) 0 := ⟨q327, q328, q100, q329, ⟨by decide, by decide, by decide +kernel⟩⟩
