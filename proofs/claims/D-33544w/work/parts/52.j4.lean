/-! the list: its making -/

set_option maxRecDepth 100000 in
set_option maxHeartbeats 4000000 in
theorem ct_J0_init (l : Launch) (g : GT) (a : Nat)  : Ct l g yJ0_init cJ0_init 1 none 2 0 0 [.ref a] (fun _ => True) (fun r H H1 => r = none ∧ H1 = H) := by
  refine Ct.of (by decide) (Nat.le_of_ble_eq_true rfl) ?_
  intro p e s m args below meth c X hP ls hl
  have hx := X.1
  have hb := X.2.1
  have hKV := X.2.2.2.2.2.2.2.1.1
  have hL : ∀ q ∈ ([] : List Loc), gLo g ≤ q.base := fun _ h => by cases h
  have hl : lv_has ls 1 [(0, .ref a)] := hl
  refine lv_aload_n hx hb dJ0_init_0 rfl (lv_at hl 0 rfl) ?_
  refine W.objInit hx hb X.2.2.2.1 (X.2.2.2.2.1 _ q163) (X.2.2.2.2.1 _ q138) (X.2.2.2.2.1 _ q139) rfl (hl.1.trans X.2.2.1.symm) rfl dJ0_init_1 (Nat.le_of_ble_eq_true rfl) (Nat.le_of_ble_eq_true rfl) ?_
  exact r_vret X hL dJ0_init_4 (by omega) (by omega) ⟨rfl, rfl⟩
theorem ib_J0_init : IB yJ0_init cJ0_init 1 0 := ⟨q161, q102, q162, rfl, ⟨by decide, by decide, by decide +kernel⟩⟩

set_option maxRecDepth 100000 in
set_option maxHeartbeats 4000000 in
theorem ct_J1_init (l : Launch) (g : GT) (P : Nat → Prop) (a : Nat) (p1 : P a) (l1 : gLo g ≤ a) : Ct l g yJ1_init cJ1_init 1 none 3 0 0 [.ref a] (Ob g a 7 [.int 0, .null, .int 0]) (fun r H H1 => r = none ∧ Ob g a 7 [.int (nI 0), .null, .int 0] H1 ∧ On a H H1) := by
  refine Ct.of (by decide) (Nat.le_of_ble_eq_true rfl) ?_
  intro p e s m args below meth c X hP ls hl
  have hx := X.1
  have hb := X.2.1
  have hKV := X.2.2.2.2.2.2.2.1.1
  have hL : ∀ q ∈ ([] : List Loc), gLo g ≤ q.base := fun _ h => by cases h
  have ob := hP
  have hl : lv_has ls 1 [(0, .ref a)] := hl
  refine lv_aload_n hx hb dJ1_init_0 rfl (lv_at hl 0 rfl) ?_
  refine Ct.callI (ct_J0_init l g a ) X hL hl ib_J0_init q160 rfl rfl (Nat.le_of_ble_eq_true rfl) dJ1_init_1 ⟨Nat.le_of_ble_eq_true rfl, Nat.le_of_ble_eq_true rfl⟩ (by omega) (by omega) trivial (fun r H locs hL hp => ?_)
  obtain ⟨rfl, rfl⟩ := hp
  refine lv_aload_n hx hb dJ1_init_4 rfl (lv_at hl 0 rfl) ?_
  refine lv_iconst (v := nI 0) hx hb dJ1_init_5 (by decide) ?_
  refine r_put (C := RJ2) (T := TJ2) (N := 3) (ci := 7) X in_J2 tyJ2 tyJ2_ok nmJ2 rfl 0 (Nat.le_of_ble_eq_true rfl) q168 (fun _ h => h) rfl hL ob l1 rfl rfl (Nat.le_of_ble_eq_true rfl) dJ1_init_6 (fun H locs hL h1 h2 => ?_)
  have ob : Ob g a 7 [.int (nI 0), .null, .int 0] H := h1
  have hon := h2
  exact r_vret X hL dJ1_init_9 (by omega) (by omega) ⟨rfl, ob, hon⟩
theorem ib_J1_init : IB yJ1_init cJ1_init 1 0 := ⟨q158, q103, q159, rfl, ⟨by decide, by decide, by decide +kernel⟩⟩

set_option maxRecDepth 100000 in
set_option maxHeartbeats 4000000 in
theorem ct_J2_init (l : Launch) (g : GT) (P : Nat → Prop) (a : Nat) (p1 : P a) (l1 : gLo g ≤ a) : Ct l g yJ2_init cJ2_init 1 none 4 0 0 [.ref a] (Ob g a 7 [.int 0, .null, .int 0]) (fun r H H1 => r = none ∧ (∀ x, LstR g P x 0 a H1) ∧ On a H H1) := by
  refine Ct.of (by decide) (Nat.le_of_ble_eq_true rfl) ?_
  intro p e s m args below meth c X hP ls hl
  have hx := X.1
  have hb := X.2.1
  have hKV := X.2.2.2.2.2.2.2.1.1
  have hL : ∀ q ∈ ([] : List Loc), gLo g ≤ q.base := fun _ h => by cases h
  have ob := hP
  have hl : lv_has ls 1 [(0, .ref a)] := hl
  refine lv_aload_n hx hb dJ2_init_0 rfl (lv_at hl 0 rfl) ?_
  refine Ct.callI (ct_J1_init l g P a p1 l1) X hL hl ib_J1_init q157 rfl rfl (Nat.le_of_ble_eq_true rfl) dJ2_init_1 ⟨Nat.le_of_ble_eq_true rfl, Nat.le_of_ble_eq_true rfl⟩ (by omega) (by omega) ob (fun r H locs hL hp => ?_)
  obtain ⟨rfl, ob, ho1⟩ := hp
  refine lv_aload_n hx hb dJ2_init_4 rfl (lv_at hl 0 rfl) ?_
  refine r_gs X hL hKV.2.2.2.2.1 q164 (fun _ h => h) dJ2_init_5 ?_
  refine r_put (C := RJ2) (T := TJ2) (N := 3) (ci := 7) X in_J2 tyJ2 tyJ2_ok nmJ2 rfl 1 (Nat.le_of_ble_eq_true rfl) q166 (fun _ h => h) rfl hL ob l1 rfl rfl (Nat.le_of_ble_eq_true rfl) dJ2_init_8 (fun H locs hL h1 h2 => ?_)
  have ob : Ob g a 7 [.int 0, .ref (gE g), .int 0] H := h1
  have hon : On a s.heap H := ⟨h2.1.trans ho1.1, fun q hq => (h2.2 q hq).trans (ho1.2 q hq)⟩
  have hBs := X.2.2.2.2.2.2.2.1.2
  have hEa := gE_at hKV hBs
  have hlt : gE g < gLo g := by obtain ⟨-, -, -, -, -, -, -, -, -, -, -, -, h9, -⟩ := hKV; exact h9
  exact r_vret X hL dJ2_init_11 (by omega) (by omega) ⟨rfl, fun x => ⟨_, gE g, 0, _, p1, l1, ob, hEa.at (hon.2 _ (by omega)), Nat.le_refl _, by omega, by omega, fun j hj => absurd hj (Nat.not_lt_zero _), Or.inl ⟨rfl, rfl⟩⟩, hon⟩
theorem ib_J2_init : IB yJ2_init cJ2_init 1 0 := ⟨q155, q104, q156, rfl, ⟨by decide, by decide, by decide +kernel⟩⟩
