/-! the list: its walks -/

set_option maxRecDepth 100000 in
set_option maxHeartbeats 4000000 in
theorem ct_J2_size (l : Launch) (g : GT) (P : Nat → Prop) (x : Nat → Nat) (n a : Nat)  : Ct l g yJ2_size cJ2_size 1 (some .int) 1 0 0 [.ref a] (LstR g P x n a) (fun r H H1 => r = some (.int (nI n)) ∧ H1 = H) := by
  refine Ct.of (by decide) (Nat.le_of_ble_eq_true rfl) ?_
  intro p e s m args below meth c X hP ls hl
  have hx := X.1
  have hb := X.2.1
  have hKV := X.2.2.2.2.2.2.2.1.1
  have hL : ∀ q ∈ ([] : List Loc), gLo g ≤ q.base := fun _ h => by cases h
  obtain ⟨mc, ar, cap, f, p1, l1, ob, aq, hnc, hcap, hne, hx1, he⟩ := hP
  have hl : lv_has ls 1 [(0, .ref a)] := hl
  refine lv_aload_n hx hb dJ2_size_0 rfl (lv_at hl 0 rfl) ?_
  refine r_get (C := RJ2) (T := TJ2) (N := 3) (ci := 7) X in_J2 rfl 2 (Nat.le_of_ble_eq_true rfl) q167 (fun _ h => h) ob rfl dJ2_size_1 ?_
  exact r_iret X hL rfl rfl dJ2_size_4 (by omega) (by omega) ⟨rfl, rfl⟩
theorem vb_J2_size : VB yJ2_size cJ2_size 1 (some .int) 0 := ⟨q339, q340, q104, q341, ⟨by decide, by decide, by decide +kernel⟩⟩

set_option maxRecDepth 100000 in
set_option maxHeartbeats 4000000 in
theorem ct_J2_elementData (l : Launch) (g : GT) (P : Nat → Prop) (x : Nat → Nat) (n a : Nat) (i : Nat) (hi : i < n) : Ct l g yJ2_elementData cJ2_elementData 2 (some (.object "java/lang/Object")) 1 0 0 [.ref a, .int (nI i)] (LstR g P x n a) (fun r H H1 => r = some (.ref (x i)) ∧ H1 = H) := by
  refine Ct.of (by decide) (Nat.le_of_ble_eq_true rfl) ?_
  intro p e s m args below meth c X hP ls hl
  have hx := X.1
  have hb := X.2.1
  have hKV := X.2.2.2.2.2.2.2.1.1
  have hL : ∀ q ∈ ([] : List Loc), gLo g ≤ q.base := fun _ h => by cases h
  obtain ⟨mc, ar, cap, f, p1, l1, ob, aq, hnc, hcap, hne, hx1, he⟩ := hP
  have hl : lv_has ls 2 [(0, .ref a), (1, .int (nI i))] := hl
  refine lv_aload_n hx hb dJ2_elementData_0 rfl (lv_at hl 0 rfl) ?_
  refine r_get (C := RJ2) (T := TJ2) (N := 3) (ci := 7) X in_J2 rfl 1 (Nat.le_of_ble_eq_true rfl) q166 (fun _ h => h) ob rfl dJ2_elementData_1 ?_
  refine lv_iload_n hx hb dJ2_elementData_4 rfl (lv_at hl 1 rfl) ?_
  refine r_qld (k := 4) X aq rfl i (nI_cl (by omega) rfl) (nI_nn (by omega) rfl) (by omega) dJ2_elementData_5 ?_
  rw [show va_rf (f i) = .ref (x i) from by rw [hx1 i hi]; rfl]
  exact r_aret X hL rfl (Or.inl ⟨_, rfl⟩) (Or.inr ⟨_, rfl⟩) dJ2_elementData_6 (by omega) (by omega) ⟨rfl, rfl⟩
theorem vb_J2_elementData : VB yJ2_elementData cJ2_elementData 2 (some (.object "java/lang/Object")) 1 := ⟨q353, q354, q104, q355, ⟨by decide, by decide, by decide +kernel⟩⟩

set_option maxRecDepth 100000 in
set_option maxHeartbeats 4000000 in
theorem ct_J2_get (l : Launch) (g : GT) (P : Nat → Prop) (x : Nat → Nat) (n a : Nat) (i : Nat) (hi : i < n) : Ct l g yJ2_get cJ2_get 2 (some (.object "java/lang/Object")) 3 0 0 [.ref a, .int (nI i)] (LstR g P x n a) (fun r H H1 => r = some (.ref (x i)) ∧ H1 = H) := by
  refine Ct.of (by decide) (Nat.le_of_ble_eq_true rfl) ?_
  intro p e s m args below meth c X hP ls hl
  have hx := X.1
  have hb := X.2.1
  have hKV := X.2.2.2.2.2.2.2.1.1
  have hL : ∀ q ∈ ([] : List Loc), gLo g ≤ q.base := fun _ h => by cases h
  obtain ⟨mc, ar, cap, f, p1, l1, ob, aq, hnc, hcap, hne, hx1, he⟩ := hP
  have hl : lv_has ls 2 [(0, .ref a), (1, .int (nI i))] := hl
  refine lv_iload_n hx hb dJ2_get_0 rfl (lv_at hl 1 rfl) ?_
  refine lv_aload_n hx hb dJ2_get_1 rfl (lv_at hl 0 rfl) ?_
  refine r_get (C := RJ2) (T := TJ2) (N := 3) (ci := 7) X in_J2 rfl 2 (Nat.le_of_ble_eq_true rfl) q167 (fun _ h => h) ob rfl dJ2_get_2 ?_
  refine Cp.callS (v := .int (nI i)) (ct_J13_checkIndex l g i n (by omega) (by omega)) X hL hl sb_J13_checkIndex q346 rfl rfl (Nat.le_of_ble_eq_true rfl) dJ2_get_5 ⟨Nat.le_of_ble_eq_true rfl, Nat.le_of_ble_eq_true rfl⟩ (by omega) (by omega) trivial (fun locs hL => ?_)
  refine lv_pop hx hb dJ2_get_8 rfl ?_
  refine lv_aload_n hx hb dJ2_get_9 rfl (lv_at hl 0 rfl) ?_
  refine lv_iload_n hx hb dJ2_get_10 rfl (lv_at hl 1 rfl) ?_
  refine Cp.callV (v := .ref (x i)) (ct_J2_elementData l g P x n a i (by omega)) X hL hl vb_J2_elementData q352 (ob.recv hKV rfl) rfl rfl (Nat.le_of_ble_eq_true rfl) dJ2_get_11 ⟨Nat.le_of_ble_eq_true rfl, Nat.le_of_ble_eq_true rfl⟩ (by omega) (by omega) ⟨mc, ar, cap, f, p1, l1, ob, aq, hnc, hcap, hne, hx1, he⟩ (fun locs hL => ?_)
  exact r_aret X hL rfl (Or.inl ⟨_, rfl⟩) (Or.inr ⟨_, rfl⟩) dJ2_get_14 (by omega) (by omega) ⟨rfl, rfl⟩
theorem vb_J2_get : VB yJ2_get cJ2_get 2 (some (.object "java/lang/Object")) 1 := ⟨q343, q344, q104, q345, ⟨by decide, by decide, by decide +kernel⟩⟩

set_option maxRecDepth 100000 in
set_option maxHeartbeats 4000000 in
theorem ct_J2_set (l : Launch) (g : GT) (P : Nat → Prop) (x : Nat → Nat) (n a i e1 : Nat) (hi : i < n) : Ct l g yJ2_set cJ2_set 4 (some (.object "java/lang/Object")) 4 0 0 [.ref a, .int (nI i), .ref e1] (fun H => LstR g P x n a H ∧ ∃ fs, Ob g e1 5 fs H) (fun r H H1 => r = some (.ref (x i)) ∧ LstR g P (va_up x i e1) n a H1 ∧ Chg P H H1) := by
  refine Ct.of (by decide) (Nat.le_of_ble_eq_true rfl) ?_
  intro p e s m args below meth c X hP ls hl
  have hx := X.1
  have hb := X.2.1
  have hKV := X.2.2.2.2.2.2.2.1.1
  have hL : ∀ q ∈ ([] : List Loc), gLo g ≤ q.base := fun _ h => by cases h
  obtain ⟨⟨mc, ar, cap, f, p1, l1, ob, aq, hnc, hcap, hne, hx1, he⟩, fs, oe⟩ := hP
  have hl : lv_has ls 4 [(0, .ref a), (1, .int (nI i)), (2, .ref e1)] := hl
  have hC : Chg P s.heap s.heap := Chg.rfl'
  obtain ⟨p2, l2, hcp⟩ : P ar ∧ gLo g ≤ ar ∧ 0 < cap := he.resolve_left (fun q => by omega)
  refine lv_iload_n hx hb dJ2_set_0 rfl (lv_at hl 1 rfl) ?_
  refine lv_aload_n hx hb dJ2_set_1 rfl (lv_at hl 0 rfl) ?_
  refine r_get (C := RJ2) (T := TJ2) (N := 3) (ci := 7) X in_J2 rfl 2 (Nat.le_of_ble_eq_true rfl) q167 (fun _ h => h) ob rfl dJ2_set_2 ?_
  refine Cp.callS (v := .int (nI i)) (ct_J13_checkIndex l g i n (by omega) (by omega)) X hL hl sb_J13_checkIndex q346 rfl rfl (Nat.le_of_ble_eq_true rfl) dJ2_set_5 ⟨Nat.le_of_ble_eq_true rfl, Nat.le_of_ble_eq_true rfl⟩ (by omega) (by omega) trivial (fun locs hL => ?_)
  refine lv_pop hx hb dJ2_set_8 rfl ?_
  refine lv_aload_n hx hb dJ2_set_9 rfl (lv_at hl 0 rfl) ?_
  refine lv_iload_n hx hb dJ2_set_10 rfl (lv_at hl 1 rfl) ?_
  refine Cp.callV (v := .ref (x i)) (ct_J2_elementData l g P x n a i (by omega)) X hL hl vb_J2_elementData q352 (ob.recv hKV rfl) rfl rfl (Nat.le_of_ble_eq_true rfl) dJ2_set_11 ⟨Nat.le_of_ble_eq_true rfl, Nat.le_of_ble_eq_true rfl⟩ (by omega) (by omega) ⟨mc, ar, cap, f, p1, l1, ob, aq, hnc, hcap, hne, hx1, he⟩ (fun locs hL => ?_)
  refine lv_astore_n (lv' := [(3, .ref _), (0, .ref _), (1, .int _), (2, .ref _)]) hx hb dJ2_set_14 rfl hl (by decide) rfl (fun ls hl => ?_)
  refine lv_aload_n hx hb dJ2_set_15 rfl (lv_at hl 1 rfl) ?_
  refine r_get (C := RJ2) (T := TJ2) (N := 3) (ci := 7) X in_J2 rfl 1 (Nat.le_of_ble_eq_true rfl) q166 (fun _ h => h) ob rfl dJ2_set_16 ?_
  refine lv_iload_n hx hb dJ2_set_19 rfl (lv_at hl 2 rfl) ?_
  refine lv_aload_n hx hb dJ2_set_20 rfl (lv_at hl 3 rfl) ?_
  refine r_qst (k := 4) X hL aq rfl oe rfl (Or.inr q2326) l2 i (nI_cl (by omega) rfl) (nI_nn (by omega) rfl) (by omega) dJ2_set_21 (fun H locs hL h1 h2 => ?_)
  have aq : Aq g ar 4 cap (va_up f i (some e1)) H := h1
  have ob := ob.on h2 hne
  have hC := hC.trans (h2.chg p2)
  refine lv_aload_n hx hb dJ2_set_22 rfl (lv_at hl 0 rfl) ?_
  exact r_aret X hL rfl (Or.inl ⟨_, rfl⟩) (Or.inr ⟨_, rfl⟩) dJ2_set_23 (by omega) (by omega) ⟨rfl, ⟨mc, ar, cap, _, p1, l1, ob, aq, hnc, hcap, hne, fun j hj => by by_cases q : j = i <;> simp [va_up, q, hx1 j hj], Or.inr ⟨p2, l2, hcp⟩⟩, hC⟩
theorem vb_J2_set : VB yJ2_set cJ2_set 4 (some (.object "java/lang/Object")) 2 := ⟨q1423, q1424, q104, q1425, ⟨by decide, by decide, by decide +kernel⟩⟩
