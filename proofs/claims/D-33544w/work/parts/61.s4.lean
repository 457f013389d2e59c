/-! bags: taking out, putting in order -/
/-- the first k, and of the others those that stay -/
def drL (L : List Nat) (b : Nat → Bool) (k : Nat) : List Nat := L.take k ++ (L.drop k).filter (fun i => !b i)
theorem drL_n (L : List Nat) (b : Nat → Bool) : drL L b L.length = L := by unfold drL; simp
theorem drL_0 (L : List Nat) (b : Nat → Bool) : drL L b 0 = L.filter (fun i => !b i) := by unfold drL; simp
theorem dr_at {L : List Nat} {b : Nat → Bool} {k : Nat} (h0 : 0 < k) (hk : k ≤ L.length) : drL L b k = L.take (k - 1) ++ L.getD (k - 1) 0 :: (L.drop k).filter (fun i => !b i) ∧ drL L b (k - 1) = L.take (k - 1) ++ (if b (L.getD (k - 1) 0) then (L.drop k).filter (fun i => !b i) else L.getD (k - 1) 0 :: (L.drop k).filter (fun i => !b i)) := by
  have e1 : L.take k = L.take (k - 1) ++ [L.getD (k - 1) 0] := by
    have := take_app (L := L) (k := k - 1) (by omega)
    rwa [show k - 1 + 1 = k by omega] at this
  have e2 : L.drop (k - 1) = L.getD (k - 1) 0 :: L.drop k := by
    have := List.drop_eq_getElem_cons (l := L) (i := k - 1) (by omega)
    rw [this, getD_at (by omega), show k - 1 + 1 = k by omega]
  unfold drL
  rw [e1, e2, List.append_assoc]
  refine ⟨rfl, ?_⟩
  rw [List.filter_cons]
  cases b (L.getD (k - 1) 0) <;> rfl
theorem dr_len {L : List Nat} {b : Nat → Bool} {k : Nat} (hk : k ≤ L.length) : k ≤ (drL L b k).length := by
  unfold drL; rw [List.length_append, List.length_take]; omega
theorem dr_le (L : List Nat) (b : Nat → Bool) (k : Nat) : (drL L b k).length ≤ L.length := by
  unfold drL
  have := List.length_filter_le (fun i => !b i) (L.drop k)
  rw [List.length_append, List.length_take]
  rw [List.length_drop] at this
  omega
theorem dr_get {L : List Nat} {b : Nat → Bool} {k : Nat} (x : Nat → Nat) (h0 : 0 < k) (hk : k ≤ L.length) : XL x (drL L b k) (k - 1) = x (L.getD (k - 1) 0) := by
  unfold XL
  rw [(dr_at (b := b) h0 hk).1]
  have : (L.take (k - 1)).length = k - 1 := by rw [List.length_take]; omega
  simp [List.getD, List.getElem?_append_right, this]
theorem dr_f {L : List Nat} {b : Nat → Bool} {k : Nat} (h0 : 0 < k) (hk : k ≤ L.length) (c : b (L.getD (k - 1) 0) = false) : drL L b (k - 1) = drL L b k := by
  obtain ⟨e1, e2⟩ := dr_at (b := b) h0 hk
  rw [e1, e2, c]; rfl
theorem dr_t {L : List Nat} {b : Nat → Bool} {k : Nat} (x : Nat → Nat) (h0 : 0 < k) (hk : k ≤ L.length) (c : b (L.getD (k - 1) 0) = true) : (drL L b k).length - 1 = (drL L b (k - 1)).length ∧ ∀ j, j < (drL L b (k - 1)).length → remN (XL x (drL L b k)) (k - 1) j = XL x (drL L b (k - 1)) j := by
  obtain ⟨e1, e2⟩ := dr_at (b := b) h0 hk
  rw [c] at e2
  simp only [if_true] at e2
  have hl : (L.take (k - 1)).length = k - 1 := by rw [List.length_take]; omega
  rw [e1, e2]
  refine ⟨by simp, fun j hj => ?_⟩
  unfold remN XL
  by_cases q : j < k - 1
  · rw [if_pos q]
    simp only [List.getD]
    rw [List.getElem?_append_left (by omega), List.getElem?_append_left (by omega)]
  · rw [if_neg q]
    simp only [List.getD]
    rw [List.getElem?_append_right (by omega), List.getElem?_append_right (by omega), hl, show j + 1 - (k - 1) = (j - (k - 1)) + 1 by omega, List.getElem?_cons_succ]
theorem dr_sub {L : List Nat} {b : Nat → Bool} {k i : Nat} (h : i ∈ drL L b k) : i ∈ L := by
  unfold drL at h
  rcases List.mem_append.mp h with h | h
  · exact List.mem_of_mem_take h
  · exact List.mem_of_mem_drop (List.mem_filter.mp h).1
theorem ins_XL (x : Nat → Nat) (R : List Nat) {p : Nat} (i : Nat) (hp : p ≤ R.length) : ∀ j, j < R.length + 1 → insN (XL x R) p (x i) j = XL x (R.take p ++ i :: R.drop p) j := fun j _ => by
  have hl : (R.take p).length = p := by rw [List.length_take]; omega
  unfold insN XL
  simp only [List.getD]
  by_cases q : j < p
  · rw [if_pos q, List.getElem?_append_left (by omega), List.getElem?_take_of_lt q]
  · rw [if_neg q, List.getElem?_append_right (by omega), hl]
    by_cases z : j = p
    · rw [if_pos z, z, Nat.sub_self]; rfl
    · rw [if_neg z, show j - p = (j - p - 1) + 1 by omega, List.getElem?_cons_succ, List.getElem?_drop, show p + (j - p - 1) = j - 1 by omega]
theorem ins_len (ah : Nat → Nat → Bool) (R : List Nat) (i : Nat) : (insL ah R i).length = R.length + 1 := by
  rw [(ins_perm ah R i).length_eq]; rfl
theorem ord_s (ah : Nat → Nat → Bool) {L : List Nat} {k : Nat} (h : k < L.length) : ordL ah (L.take (k + 1)) = insL ah (ordL ah (L.take k)) (L.getD k 0) := by
  rw [take_app h]; unfold ordL; rw [List.foldl_append]; rfl
theorem ord_le (ah : Nat → Nat → Bool) (L : List Nat) (k : Nat) : (ordL ah (L.take k)).length ≤ k := by rw [(ord_perm _ _).length_eq]; exact take_le L k
theorem ord_sub {ah : Nat → Nat → Bool} {L : List Nat} {k i : Nat} (h : i ∈ ordL ah (L.take k)) : i ∈ L := List.mem_of_mem_take ((ord_perm _ _).mem_iff.mp h)

theorem atN_s {ah : Nat → Nat → Bool} {i : Nat} {L : List Nat} {z : Nat} (h0 : 0 < z) (h : ah i (L.getD (z - 1) 0) = true) : atN ah i L z = atN ah i L (z - 1) := by
  obtain ⟨k, rfl⟩ : ∃ k, z = k + 1 := ⟨z - 1, by omega⟩
  rw [Nat.add_sub_cancel] at h ⊢
  rw [atN, if_pos h]
theorem atN_e {ah : Nat → Nat → Bool} {i : Nat} {L : List Nat} {z : Nat} (h0 : 0 < z) (h : ah i (L.getD (z - 1) 0) = false) : atN ah i L z = z := by
  obtain ⟨k, rfl⟩ : ∃ k, z = k + 1 := ⟨z - 1, by omega⟩
  rw [Nat.add_sub_cancel] at h
  rw [atN, if_neg (by rw [h]; decide)]
theorem dec_z {z : Nat} (h : 0 < z) : nI z + Int32.ofInt (-1) = nI (z - 1) := nI_dec h

set_option maxRecDepth 100000 in
set_option maxHeartbeats 4000000 in
theorem ct_X3_drops (l : Launch) (g : GT) (P : Nat → Prop) (x : Nat → Nat) (L : List Nat) (a la : Nat) (bl : Nat → Bool) (hLn : L.length ≤ 40) : Ct l g yX3_drops cX3_drops 5 (some .int) 12 0 0 [.ref a, .ref la] (fun H => BagR g P (XL x L) L.length a H ∧ ElO g x L H ∧ (∀ i, i ∈ L → ¬ P (x i)) ∧ (∀ q, H.size ≤ q → P q) ∧ ∀ i, i ∈ L → ∀ H1, Chg P H H1 → LamRun l g xCh la [.ref (x i)] 10 0 0 H1 (PoB (bl i))) (fun r H H1 => r = some (.int (nI (L.length - (L.filter (fun i => !bl i)).length))) ∧ BagR g P (XL x (L.filter (fun i => !bl i))) (L.filter (fun i => !bl i)).length a H1 ∧ Chg P H H1) := by
  refine Ct.of (by decide) (Nat.le_of_ble_eq_true rfl) ?_
  intro p e s m args below meth c X hP ls hl
  have hx := X.1
  have hb := X.2.1
  have hKV := X.2.2.2.2.2.2.2.1.1
  have hL : ∀ q ∈ ([] : List Loc), gLo g ≤ q.base := fun _ h => by cases h
  obtain ⟨⟨al0, pa, la0, ob0, hls⟩, hel, hnp, hPn, hrun⟩ := hP
  have hl : lv_has ls 5 [(0, .ref a), (1, .ref la)] := hl
  have hC : Chg P s.heap s.heap := Chg.rfl'
  refine lv_iconst (v := nI 0) hx hb dX3_drops_0 (by decide) ?_
  refine lv_istore_n (lv' := [(2, .int _), (0, .ref _), (1, .ref _)]) hx hb dX3_drops_1 rfl hl (by decide) rfl (fun ls hl => ?_)
  refine lv_aload_n hx hb dX3_drops_2 rfl (lv_at hl 1 rfl) ?_
  refine r_get (C := RX3) (T := TX3) (N := 1) (ci := 3) X in_X3 rfl 0 (Nat.le_of_ble_eq_true rfl) q178 (fun _ h => h) ob0 rfl dX3_drops_3 ?_
  refine Cp.callV (v := .int (nI L.length)) (ct_J2_size l g (fun q => P q ∧ q ≠ a) (XL x L) L.length al0 ) X hL hl vb_J2_size q338 (hls.recv hKV) rfl rfl (Nat.le_of_ble_eq_true rfl) dX3_drops_6 ⟨Nat.le_of_ble_eq_true rfl, Nat.le_of_ble_eq_true rfl⟩ (by omega) (by omega) hls (fun locs hL => ?_)
  refine lv_iconst (v := nI 1) hx hb dX3_drops_9 (by decide) ?_
  refine lv_isub hx hb dX3_drops_10 ?_
  refine lv_istore_n (lv' := [(3, .int _), (2, .int _), (0, .ref _), (1, .ref _)]) hx hb dX3_drops_11 rfl hl (by decide) rfl (fun ls hl => ?_)
  have L12 : ∀ (fuel : Nat) (v k : Nat), k < fuel → (v + (drL L bl k).length = L.length) → (k ≤ L.length) → ∀ (H : Heap), Ob g a 3 [.ref al0] H → LstR g (fun q => P q ∧ q ≠ a) (XL x (drL L bl k)) (drL L bl k).length al0 H → Chg P s.heap H → ∀ (locs : List Loc), (∀ q ∈ locs, gLo g ≤ q.base) → ∀ (ls : Array Slot), lv_has ls 5 [(0, .ref a), (1, .ref la), (2, .int (nI v)), (3, .int (nI k - nI 1))] → W p l e (rmL 12 0 0) s m args below meth c H locs 0 0 (MQ below (Qcg (fun r H H1 => r = some (.int (nI (L.length - (L.filter (fun i => !bl i)).length))) ∧ BagR g P (XL x (L.filter (fun i => !bl i))) (L.filter (fun i => !bl i)).length a H1 ∧ Chg P H H1)) args s 0 0 (fre g)) (F0 m 12 ls []) := by
    intro fuel
    induction fuel with
    | zero => intro v k hfu; exact absurd hfu (Nat.not_lt_zero _)
    | succ fuel ih12 =>
      intro v k hfu hv hk H ob0 hls hC locs hL ls hl
      have hkl := dr_len (b := bl) hk
      have hml := dr_le L bl k
      refine lv_iload_n hx hb dX3_drops_12 rfl (lv_at hl 3 rfl) ?_
      refine lv_if_lt (tgt := 52) hx hb dX3_drops_13 (by decide) (fun c_13 => ?_) (fun c_13 => ?_)
      ·
        obtain rfl : k = 0 := r_k0 hk hLn c_13
        rw [drL_0] at hls hv
        refine lv_iload_n hx hb dX3_drops_52 rfl (lv_at hl 2 rfl) ?_
        exact r_iret X hL rfl rfl dX3_drops_53 (by omega) (by omega) ⟨by rw [show v = L.length - (L.filter (fun i => !bl i)).length by omega], ⟨al0, pa, la0, ob0, hls⟩, hC⟩
      ·
        have hk0 := r_k1 c_13
        refine lv_aload_n hx hb dX3_drops_16 rfl (lv_at hl 1 rfl) ?_
        refine lv_aload_n hx hb dX3_drops_17 rfl (lv_at hl 0 rfl) ?_
        refine r_get (C := RX3) (T := TX3) (N := 1) (ci := 3) X in_X3 rfl 0 (Nat.le_of_ble_eq_true rfl) q178 (fun _ h => h) ob0 rfl dX3_drops_18 ?_
        refine lv_iload_n hx hb dX3_drops_21 rfl (lv_at hl 3 rfl) ?_
        refine W.stk (w := (nI (k - 1))) (pk_sub (by omega)) ?_
        refine Cp.callV (v := .ref ((XL x (drL L bl k)) (k - 1))) (ct_J2_get l g (fun q => P q ∧ q ≠ a) (XL x (drL L bl k)) ((drL L bl k).length) al0 (k - 1) (by omega)) X hL hl vb_J2_get q342 (hls.recv hKV) rfl rfl (Nat.le_of_ble_eq_true rfl) dX3_drops_22 ⟨Nat.le_of_ble_eq_true rfl, Nat.le_of_ble_eq_true rfl⟩ (by omega) (by omega) hls (fun locs hL => ?_)
        rw [dr_get x hk0 hk]
        refine r_lam (As := [.ref (x (L.getD (k - 1) 0))]) (hrun _ (getD_mem (by omega)) _ hC) X hL hl q550 rfl (Nat.le_of_ble_eq_true rfl) dX3_drops_25 (Nat.le_of_ble_eq_true rfl) (by omega) (by omega) (fun r H locs hL hp => ?_)
        obtain ⟨rfl, hE1⟩ := hp
        have ob0 := ob0.ext hE1
        have hls := hls.ext hE1
        have hC := hC.trans hE1.chg
        refine b_ifeq (tgt := 46) X dX3_drops_30 (by decide) (fun c_30 => ?_) (fun c_30 => ?_)
        ·
          refine lv_iinc (lv' := [(3, .int _), (0, .ref _), (1, .ref _), (2, .int _)]) hx hb dX3_drops_46 hl (k := 3) rfl rfl (by decide) rfl (fun ls hl => ?_)
          refine lv_goto (tgt := 12) hx hb dX3_drops_49 (by decide) ?_
          rw [r_dec1 (r_k1 c_13)] at hl
          exact W.widen (by omega) (by omega) (ih12 v (k - 1) (by omega) (by rw [dr_f (r_k1 c_13) hk c_30]; exact hv) (by omega) _ ob0 (by rw [dr_f (r_k1 c_13) hk c_30]; exact hls) hC _ hL ls (lv_sub hl [1, 2, 3, 0] rfl))
        ·
          refine lv_aload_n hx hb dX3_drops_33 rfl (lv_at hl 0 rfl) ?_
          refine r_get (C := RX3) (T := TX3) (N := 1) (ci := 3) X in_X3 rfl 0 (Nat.le_of_ble_eq_true rfl) q178 (fun _ h => h) ob0 rfl dX3_drops_34 ?_
          refine lv_iload_n hx hb dX3_drops_37 rfl (lv_at hl 3 rfl) ?_
          refine W.stk (w := (nI (k - 1))) (pk_sub (by omega)) ?_
          refine Ct.callV (ct_J2_remove l g (fun q => P q ∧ q ≠ a) (XL x (drL L bl k)) ((drL L bl k).length) al0 (k - 1) (by omega)) X hL hl vb_J2_remove q608 (hls.recv hKV) rfl rfl (Nat.le_of_ble_eq_true rfl) dX3_drops_38 ⟨Nat.le_of_ble_eq_true rfl, Nat.le_of_ble_eq_true rfl⟩ (by omega) (by omega) ⟨hls, ((hel.chg hC hnp).sub (fun i hi => dr_sub hi)).el (fun i hi z => hnp i (dr_sub hi) z.1)⟩ (fun r H locs hL hp => ?_)
          obtain ⟨rfl, hls, hC1⟩ := hp
          have ob0 := ob0.chg hC1 (fun z => z.2 rfl)
          have hC := hC.trans (hC1.mono (fun _ z => z.1))
          rw [(dr_t x hk0 hk c_30).1] at hls
          have hls := hls.to (dr_t x hk0 hk c_30).2 (fun _ z => z)
          refine lv_astore (lv' := [(4, .ref _), (0, .ref _), (1, .ref _), (2, .int _), (3, .int _)]) hx hb dX3_drops_41 hl (by decide) rfl (fun ls hl => ?_)
          refine lv_iinc (v := nI (v + 1)) (lv' := [(2, .int _), (4, .ref _), (0, .ref _), (1, .ref _), (3, .int _)]) hx hb dX3_drops_43 hl (k := 3) rfl (nI_iinc _ 1 rfl) (by decide) rfl (fun ls hl => ?_)
          refine lv_iinc (lv' := [(3, .int _), (2, .int _), (4, .ref _), (0, .ref _), (1, .ref _)]) hx hb dX3_drops_46 hl (k := 4) rfl rfl (by decide) rfl (fun ls hl => ?_)
          refine lv_goto (tgt := 12) hx hb dX3_drops_49 (by decide) ?_
          rw [r_dec1 (r_k1 c_13)] at hl
          exact W.widen (by omega) (by omega) (ih12 (v + 1) (k - 1) (by omega) (by have := (dr_t x (r_k1 c_13) hk c_30).1; omega) (by omega) _ ob0 hls hC _ hL ls (lv_sub hl [3, 4, 1, 0] rfl))
  exact W.widen (by omega) (by omega) (L12 (L.length + 1) 0 L.length (by omega) (by rw [drL_n, Nat.zero_add]) (by omega) _ ob0 (by rw [drL_n]; exact hls) hC _ hL ls (lv_sub hl [2, 3, 1, 0] rfl))
theorem vb_X3_drops : VB yX3_drops cX3_drops 5 (some .int) 1 := ⟨q605, q606, q101, q607, ⟨by decide, by decide, by decide +kernel⟩⟩

set_option maxRecDepth 100000 in
set_option maxHeartbeats 4000000 in
theorem ct_X3_dropsb (l : Launch) (g : GT) (P : Nat → Prop) (x : Nat → Nat) (L : List Nat) (a la : Nat) (bl : Nat → Bool) (hLn : L.length ≤ 40) : Ct l g yX3_drops cX3_drops 5 (some .int) 18 L.length (3 * L.length) [.ref a, .ref la] (fun H => BagR g P (XL x L) L.length a H ∧ ElO g x L H ∧ (∀ i, i ∈ L → ¬ P (x i)) ∧ (∀ q, H.size ≤ q → P q) ∧ ∀ i, i ∈ L → ∀ H1, Chg P H H1 → LamRun l g xCh la [.ref (x i)] 16 1 3 H1 (PoB (bl i))) (fun r H H1 => r = some (.int (nI (L.length - (L.filter (fun i => !bl i)).length))) ∧ BagR g P (XL x (L.filter (fun i => !bl i))) (L.filter (fun i => !bl i)).length a H1 ∧ Chg P H H1) := by
  refine Ct.of (by decide) (Nat.le_of_ble_eq_true rfl) ?_
  intro p e s m args below meth c X hP ls hl
  have hx := X.1
  have hb := X.2.1
  have hKV := X.2.2.2.2.2.2.2.1.1
  have hL : ∀ q ∈ ([] : List Loc), gLo g ≤ q.base := fun _ h => by cases h
  obtain ⟨⟨al0, pa, la0, ob0, hls⟩, hel, hnp, hPn, hrun⟩ := hP
  have hl : lv_has ls 5 [(0, .ref a), (1, .ref la)] := hl
  have hC : Chg P s.heap s.heap := Chg.rfl'
  refine lv_iconst (v := nI 0) hx hb dX3_drops_0 (by decide) ?_
  refine lv_istore_n (lv' := [(2, .int _), (0, .ref _), (1, .ref _)]) hx hb dX3_drops_1 rfl hl (by decide) rfl (fun ls hl => ?_)
  refine lv_aload_n hx hb dX3_drops_2 rfl (lv_at hl 1 rfl) ?_
  refine r_get (C := RX3) (T := TX3) (N := 1) (ci := 3) X in_X3 rfl 0 (Nat.le_of_ble_eq_true rfl) q178 (fun _ h => h) ob0 rfl dX3_drops_3 ?_
  refine Cp.callV (v := .int (nI L.length)) (ct_J2_size l g (fun q => P q ∧ q ≠ a) (XL x L) L.length al0 ) X hL hl vb_J2_size q338 (hls.recv hKV) rfl rfl (Nat.le_of_ble_eq_true rfl) dX3_drops_6 ⟨Nat.le_of_ble_eq_true rfl, Nat.le_of_ble_eq_true rfl⟩ (by omega) (by omega) hls (fun locs hL => ?_)
  refine lv_iconst (v := nI 1) hx hb dX3_drops_9 (by decide) ?_
  refine lv_isub hx hb dX3_drops_10 ?_
  refine lv_istore_n (lv' := [(3, .int _), (2, .int _), (0, .ref _), (1, .ref _)]) hx hb dX3_drops_11 rfl hl (by decide) rfl (fun ls hl => ?_)
  have L12 : ∀ (fuel : Nat) (v k : Nat), k < fuel → (v + (drL L bl k).length = L.length) → (k ≤ L.length) → ∀ (H : Heap), Ob g a 3 [.ref al0] H → LstR g (fun q => P q ∧ q ≠ a) (XL x (drL L bl k)) (drL L bl k).length al0 H → Chg P s.heap H → ∀ (locs : List Loc), (∀ q ∈ locs, gLo g ≤ q.base) → ∀ (ls : Array Slot), lv_has ls 5 [(0, .ref a), (1, .ref la), (2, .int (nI v)), (3, .int (nI k - nI 1))] → W p l e (rmL 18 L.length (3 * L.length)) s m args below meth c H locs (L.length - k) (3 * (L.length - k)) (MQ below (Qcg (fun r H H1 => r = some (.int (nI (L.length - (L.filter (fun i => !bl i)).length))) ∧ BagR g P (XL x (L.filter (fun i => !bl i))) (L.filter (fun i => !bl i)).length a H1 ∧ Chg P H H1)) args s L.length (3 * L.length) (fre g)) (F0 m 12 ls []) := by
    intro fuel
    induction fuel with
    | zero => intro v k hfu; exact absurd hfu (Nat.not_lt_zero _)
    | succ fuel ih12 =>
      intro v k hfu hv hk H ob0 hls hC locs hL ls hl
      have hkl := dr_len (b := bl) hk
      have hml := dr_le L bl k
      refine lv_iload_n hx hb dX3_drops_12 rfl (lv_at hl 3 rfl) ?_
      refine lv_if_lt (tgt := 52) hx hb dX3_drops_13 (by decide) (fun c_13 => ?_) (fun c_13 => ?_)
      ·
        obtain rfl : k = 0 := r_k0 hk hLn c_13
        rw [drL_0] at hls hv
        refine lv_iload_n hx hb dX3_drops_52 rfl (lv_at hl 2 rfl) ?_
        exact r_iret X hL rfl rfl dX3_drops_53 (by omega) (by omega) ⟨by rw [show v = L.length - (L.filter (fun i => !bl i)).length by omega], ⟨al0, pa, la0, ob0, hls⟩, hC⟩
      ·
        have hk0 := r_k1 c_13
        refine lv_aload_n hx hb dX3_drops_16 rfl (lv_at hl 1 rfl) ?_
        refine lv_aload_n hx hb dX3_drops_17 rfl (lv_at hl 0 rfl) ?_
        refine r_get (C := RX3) (T := TX3) (N := 1) (ci := 3) X in_X3 rfl 0 (Nat.le_of_ble_eq_true rfl) q178 (fun _ h => h) ob0 rfl dX3_drops_18 ?_
        refine lv_iload_n hx hb dX3_drops_21 rfl (lv_at hl 3 rfl) ?_
        refine W.stk (w := (nI (k - 1))) (pk_sub (by omega)) ?_
        refine Cp.callV (v := .ref ((XL x (drL L bl k)) (k - 1))) (ct_J2_get l g (fun q => P q ∧ q ≠ a) (XL x (drL L bl k)) ((drL L bl k).length) al0 (k - 1) (by omega)) X hL hl vb_J2_get q342 (hls.recv hKV) rfl rfl (Nat.le_of_ble_eq_true rfl) dX3_drops_22 ⟨Nat.le_of_ble_eq_true rfl, Nat.le_of_ble_eq_true rfl⟩ (by omega) (by omega) hls (fun locs hL => ?_)
        rw [dr_get x hk0 hk]
        refine r_lam (As := [.ref (x (L.getD (k - 1) 0))]) (hrun _ (getD_mem (by omega)) _ hC) X hL hl q550 rfl (Nat.le_of_ble_eq_true rfl) dX3_drops_25 (Nat.le_of_ble_eq_true rfl) (by omega) (by omega) (fun r H locs hL hp => ?_)
        obtain ⟨rfl, hE1⟩ := hp
        have ob0 := ob0.ext hE1
        have hls := hls.ext hE1
        have hC := hC.trans hE1.chg
        refine b_ifeq (tgt := 46) X dX3_drops_30 (by decide) (fun c_30 => ?_) (fun c_30 => ?_)
        ·
          refine lv_iinc (lv' := [(3, .int _), (0, .ref _), (1, .ref _), (2, .int _)]) hx hb dX3_drops_46 hl (k := 3) rfl rfl (by decide) rfl (fun ls hl => ?_)
          refine lv_goto (tgt := 12) hx hb dX3_drops_49 (by decide) ?_
          rw [r_dec1 (r_k1 c_13)] at hl
          exact W.widen (by omega) (by omega) (ih12 v (k - 1) (by omega) (by rw [dr_f (r_k1 c_13) hk c_30]; exact hv) (by omega) _ ob0 (by rw [dr_f (r_k1 c_13) hk c_30]; exact hls) hC _ hL ls (lv_sub hl [1, 2, 3, 0] rfl))
        ·
          refine lv_aload_n hx hb dX3_drops_33 rfl (lv_at hl 0 rfl) ?_
          refine r_get (C := RX3) (T := TX3) (N := 1) (ci := 3) X in_X3 rfl 0 (Nat.le_of_ble_eq_true rfl) q178 (fun _ h => h) ob0 rfl dX3_drops_34 ?_
          refine lv_iload_n hx hb dX3_drops_37 rfl (lv_at hl 3 rfl) ?_
          refine W.stk (w := (nI (k - 1))) (pk_sub (by omega)) ?_
          refine Ct.callV (ct_J2_remove l g (fun q => P q ∧ q ≠ a) (XL x (drL L bl k)) ((drL L bl k).length) al0 (k - 1) (by omega)) X hL hl vb_J2_remove q608 (hls.recv hKV) rfl rfl (Nat.le_of_ble_eq_true rfl) dX3_drops_38 ⟨Nat.le_of_ble_eq_true rfl, Nat.le_of_ble_eq_true rfl⟩ (by omega) (by omega) ⟨hls, ((hel.chg hC hnp).sub (fun i hi => dr_sub hi)).el (fun i hi z => hnp i (dr_sub hi) z.1)⟩ (fun r H locs hL hp => ?_)
          obtain ⟨rfl, hls, hC1⟩ := hp
          have ob0 := ob0.chg hC1 (fun z => z.2 rfl)
          have hC := hC.trans (hC1.mono (fun _ z => z.1))
          rw [(dr_t x hk0 hk c_30).1] at hls
          have hls := hls.to (dr_t x hk0 hk c_30).2 (fun _ z => z)
          refine lv_astore (lv' := [(4, .ref _), (0, .ref _), (1, .ref _), (2, .int _), (3, .int _)]) hx hb dX3_drops_41 hl (by decide) rfl (fun ls hl => ?_)
          refine lv_iinc (v := nI (v + 1)) (lv' := [(2, .int _), (4, .ref _), (0, .ref _), (1, .ref _), (3, .int _)]) hx hb dX3_drops_43 hl (k := 3) rfl (nI_iinc _ 1 rfl) (by decide) rfl (fun ls hl => ?_)
          refine lv_iinc (lv' := [(3, .int _), (2, .int _), (4, .ref _), (0, .ref _), (1, .ref _)]) hx hb dX3_drops_46 hl (k := 4) rfl rfl (by decide) rfl (fun ls hl => ?_)
          refine lv_goto (tgt := 12) hx hb dX3_drops_49 (by decide) ?_
          rw [r_dec1 (r_k1 c_13)] at hl
          exact W.widen (by omega) (by omega) (ih12 (v + 1) (k - 1) (by omega) (by have := (dr_t x (r_k1 c_13) hk c_30).1; omega) (by omega) _ ob0 hls hC _ hL ls (lv_sub hl [3, 4, 1, 0] rfl))
  exact W.widen (by omega) (by omega) (L12 (L.length + 1) 0 L.length (by omega) (by rw [drL_n, Nat.zero_add]) (by omega) _ ob0 (by rw [drL_n]; exact hls) hC _ hL ls (lv_sub hl [2, 3, 1, 0] rfl))

set_option maxRecDepth 100000 in
set_option maxHeartbeats 4000000 in
theorem ct_X3_ordered (l : Launch) (g : GT) (P0 : Nat → Prop) (x : Nat → Nat) (L : List Nat) (a : Nat) (la : Nat) (ah : Nat → Nat → Bool) (hLn : L.length ≤ 40) : Ct l g yX3_ordered cX3_ordered 6 (some (.object "OfferSky$Bag")) 12 (0 + 8) (0 + 140) [.ref a, .ref la] (fun H => BagR g P0 (XL x L) L.length a H ∧ ElO g x L H ∧ ∀ i j, i ∈ L → j ∈ L → ∀ H1, Ext H H1 → LamRun l g xOr la [.ref (x i), .ref (x j)] 10 0 0 H1 (PoB (ah i j))) (fun r H H1 => ∃ b, BagR g (fun q => H.size ≤ q) (XL x (ordL ah L)) (ordL ah L).length b H1 ∧ r = some (.ref b) ∧ Ext H H1) := by
  refine Ct.of (by decide) (Nat.le_of_ble_eq_true rfl) ?_
  intro p e s m args below meth c X hP ls hl
  have hx := X.1
  have hb := X.2.1
  have hKV := X.2.2.2.2.2.2.2.1.1
  have hL : ∀ q ∈ ([] : List Loc), gLo g ≤ q.base := fun _ h => by cases h
  obtain ⟨⟨al0, pa, la0, ob00, hls0⟩, hel, hrun⟩ := hP
  have hl : lv_has ls 6 [(0, .ref a), (1, .ref la)] := hl
  have hC : Chg (fun q => s.heap.size ≤ q) s.heap s.heap := Chg.rfl'
  have hPn : ∀ q, s.heap.size ≤ q → s.heap.size ≤ q := fun _ h => h
  have hE : Ext s.heap s.heap := Ext.rfl'
  have hCe : ∀ H1, Chg (fun q => s.heap.size ≤ q) s.heap H1 → Ext s.heap H1 := fun _ h => h.ext (fun q hq z => absurd z (Nat.not_le_of_lt hq))
  have ob0 := ob00.ext hE
  have hls := hls0.ext hE
  obtain ⟨b1, hb1⟩ : ∃ b, s.heap.size = b := ⟨_, rfl⟩
  have sz_b1 : s.heap.size ≤ b1 := by rw [← hb1]; exact Nat.le_refl _
  have lo_b1 : gLo g ≤ b1 := Nat.le_trans X.2.2.2.2.2.2.2.1.2.1 sz_b1
  have p_b1 : (fun q => s.heap.size ≤ q) b1 := hPn b1 sz_b1
  have ne_a_b1 : a ≠ b1 := Nat.ne_of_lt (by rw [← hb1]; exact ob0.lt)
  refine r_new (C := RX3) (T := TX3) (N := 1) (ci := 3) X in_X3 tyX3 tyX3_ok q336 q147 q101 rfl (fs := [.null]) (fun j hj => by rcases j with _ | _ | _ | _ | _ | j <;> first | rfl | omega) (by show _ + 1 ≤ (0 + 8); omega) (by show _ + 1 ≤ (0 + 140); omega) dX3_ordered_0 (fun H ha_b1 hE_b1 hz_b1 => ?_)
  rw [hb1] at ha_b1 hz_b1 ⊢
  have ob0 := ob0.ext hE_b1
  have hC := hC.trans hE_b1.chg
  have hE := hCe _ hC
  refine lv_dup hx hb dX3_ordered_3 rfl ?_
  refine Ct.callI (ct_X3_init l g (fun q => s.heap.size ≤ q) b1 sz_b1 lo_b1) X hL hl ib_X3_init q337 rfl rfl (Nat.le_of_ble_eq_true rfl) dX3_ordered_4 ⟨Nat.le_of_ble_eq_true rfl, Nat.le_of_ble_eq_true rfl⟩ (by omega) (by omega) ⟨ha_b1, fun q hq => Nat.le_trans hC.1 hq⟩ (fun r H locs hL hp => ?_)
  obtain ⟨al, rfl, ha_b1, hK0, hC1⟩ := hp
  have hC := hC.trans hC1
  have hE := hCe _ hC
  have hK := hK0 (XL x [])
  have ob0 := ob00.ext hE
  have hls := hls0.ext hE
  refine lv_astore_n (lv' := [(2, .ref _), (0, .ref _), (1, .ref _)]) hx hb dX3_ordered_7 rfl hl (by decide) rfl (fun ls hl => ?_)
  refine lv_iconst (v := nI 0) hx hb dX3_ordered_8 (by decide) ?_
  refine lv_istore_n (lv' := [(3, .int _), (2, .ref _), (0, .ref _), (1, .ref _)]) hx hb dX3_ordered_9 rfl hl (by decide) rfl (fun ls hl => ?_)
  have L10 : ∀ (fuel : Nat) (k cap u v : Nat), L.length - k < fuel → (k ≤ L.length) → (CapR cap u v) → ∀ (H : Heap), Ob g b1 3 [.ref al] H → LstK g (fun q => s.heap.size ≤ q ∧ q ≠ b1) (XL x (ordL ah (L.take k))) (ordL ah (L.take k)).length cap al H → Ext s.heap H → ∀ (locs : List Loc), (∀ q ∈ locs, gLo g ≤ q.base) → ∀ (ls : Array Slot), lv_has ls 6 [(0, .ref a), (1, .ref la), (2, .ref b1), (3, .int (nI k))] → W p l e (rmL 12 (0 + 8) (0 + 140)) s m args below meth c H locs (2 + u) (4 + v) (MQ below (Qcg (fun r H H1 => ∃ b, BagR g (fun q => H.size ≤ q) (XL x (ordL ah L)) (ordL ah L).length b H1 ∧ r = some (.ref b) ∧ Ext H H1)) args s (0 + 8) (0 + 140) (fre g)) (F0 m 10 ls []) := by
    intro fuel
    induction fuel with
    | zero => intro k cap u v hfu; exact absurd hfu (Nat.not_lt_zero _)
    | succ fuel ih10 =>
      intro k cap u v hfu hk hcr H ha_b1 hK hE locs hL ls hl
      have ob0 := ob00.ext hE
      have hls := hls0.ext hE
      have hcl := hcr.le
      have hrl := ord_le ah L k
      refine lv_iload_n hx hb dX3_ordered_10 rfl (lv_at hl 3 rfl) ?_
      refine lv_aload_n hx hb dX3_ordered_11 rfl (lv_at hl 0 rfl) ?_
      refine r_get (C := RX3) (T := TX3) (N := 1) (ci := 3) X in_X3 rfl 0 (Nat.le_of_ble_eq_true rfl) q178 (fun _ h => h) ob0 rfl dX3_ordered_12 ?_
      refine Cp.callV (v := .int (nI L.length)) (ct_J2_size l g (fun q => P0 q ∧ q ≠ a) (XL x L) L.length al0 ) X hL hl vb_J2_size q338 (hls.recv hKV) rfl rfl (Nat.le_of_ble_eq_true rfl) dX3_ordered_15 ⟨Nat.le_of_ble_eq_true rfl, Nat.le_of_ble_eq_true rfl⟩ (by omega) (by omega) hls (fun locs hL => ?_)
      refine n_icmp_ge (tgt := 84) X dX3_ordered_18 (by decide) (by omega) (by omega) (fun c_18 => ?_) (fun c_18 => ?_)
      ·
        refine lv_aload_n hx hb dX3_ordered_84 rfl (lv_at hl 2 rfl) ?_
        obtain rfl : k = L.length := by omega
        rw [List.take_length] at hK
        exact r_aret X hL rfl (Or.inl ⟨_, rfl⟩) (Or.inr ⟨_, rfl⟩) dX3_ordered_85 (by omega) (by omega) ⟨b1, ⟨al, sz_b1, lo_b1, ha_b1, hK.lst⟩, rfl, hE⟩
      ·
        refine lv_aload_n hx hb dX3_ordered_21 rfl (lv_at hl 0 rfl) ?_
        refine r_get (C := RX3) (T := TX3) (N := 1) (ci := 3) X in_X3 rfl 0 (Nat.le_of_ble_eq_true rfl) q178 (fun _ h => h) ob0 rfl dX3_ordered_22 ?_
        refine lv_iload_n hx hb dX3_ordered_25 rfl (lv_at hl 3 rfl) ?_
        refine Cp.callV (v := .ref (x (L.getD k 0))) (ct_J2_get l g (fun q => P0 q ∧ q ≠ a) (XL x L) L.length al0 k (by omega)) X hL hl vb_J2_get q342 (hls.recv hKV) rfl rfl (Nat.le_of_ble_eq_true rfl) dX3_ordered_26 ⟨Nat.le_of_ble_eq_true rfl, Nat.le_of_ble_eq_true rfl⟩ (by omega) (by omega) hls (fun locs hL => ?_)
        refine lv_astore (lv' := [(4, .ref _), (0, .ref _), (1, .ref _), (2, .ref _), (3, .int _)]) hx hb dX3_ordered_29 hl (by decide) rfl (fun ls hl => ?_)
        refine lv_aload_n hx hb dX3_ordered_31 rfl (lv_at hl 3 rfl) ?_
        refine Cp.callV (v := .int (nI ((ordL ah (L.take k)).length))) (ct_X3_size l g (fun q => s.heap.size ≤ q) (XL x (ordL ah (L.take k))) ((ordL ah (L.take k)).length) b1 ) X hL hl vb_X3_size q1027 (ha_b1.recv hKV rfl) rfl rfl (Nat.le_of_ble_eq_true rfl) dX3_ordered_32 ⟨Nat.le_of_ble_eq_true rfl, Nat.le_of_ble_eq_true rfl⟩ (by omega) (by omega) ⟨al, sz_b1, lo_b1, ha_b1, hK.lst⟩ (fun locs hL => ?_)
        refine lv_istore (lv' := [(5, .int _), (4, .ref _), (0, .ref _), (1, .ref _), (2, .ref _), (3, .int _)]) hx hb dX3_ordered_35 hl (by decide) rfl (fun ls hl => ?_)
        have L37 : ∀ (fuel : Nat) (z : Nat), z < fuel → (z ≤ (ordL ah (L.take k)).length) → (atN ah (L.getD k 0) (ordL ah (L.take k)) (ordL ah (L.take k)).length = atN ah (L.getD k 0) (ordL ah (L.take k)) z) → ∀ (H : Heap), Ob g b1 3 [.ref al] H → LstK g (fun q => s.heap.size ≤ q ∧ q ≠ b1) (XL x (ordL ah (L.take k))) (ordL ah (L.take k)).length cap al H → Ext s.heap H → ∀ (locs : List Loc), (∀ q ∈ locs, gLo g ≤ q.base) → ∀ (ls : Array Slot), lv_has ls 6 [(0, .ref a), (1, .ref la), (2, .ref b1), (3, .int (nI k)), (4, .ref (x (L.getD k 0))), (5, .int (nI z))] → W p l e (rmL 12 (0 + 8) (0 + 140)) s m args below meth c H locs (2 + u) (4 + v) (MQ below (Qcg (fun r H H1 => ∃ b, BagR g (fun q => H.size ≤ q) (XL x (ordL ah L)) (ordL ah L).length b H1 ∧ r = some (.ref b) ∧ Ext H H1)) args s (0 + 8) (0 + 140) (fre g)) (F0 m 37 ls []) := by
          intro fuel
          induction fuel with
          | zero => intro z hfu; exact absurd hfu (Nat.not_lt_zero _)
          | succ fuel ih37 =>
            intro z hfu hz hat H ha_b1 hK hE locs hL ls hl
            have ob0 := ob00.ext hE
            have hls := hls0.ext hE
            refine lv_iload hx hb dX3_ordered_37 (lv_at hl 5 rfl) ?_
            refine n_ifle (tgt := 67) X dX3_ordered_39 (by decide) (by omega) (fun c_39 => ?_) (fun c_39 => ?_)
            ·
              refine lv_aload_n hx hb dX3_ordered_67 rfl (lv_at hl 2 rfl) ?_
              refine r_get (C := RX3) (T := TX3) (N := 1) (ci := 3) X in_X3 rfl 0 (Nat.le_of_ble_eq_true rfl) q178 (fun _ h => h) ha_b1 rfl dX3_ordered_68 ?_
              refine lv_iload hx hb dX3_ordered_71 (lv_at hl 5 rfl) ?_
              refine lv_aload hx hb dX3_ordered_73 (lv_at hl 4 rfl) ?_
              have hat2 : atN ah (L.getD k 0) (ordL ah (L.take k)) (ordL ah (L.take k)).length = z := (by rw [hat, show z = 0 by omega]; rfl)
              obtain ⟨u1, v1, hu, hcr1⟩ := hcr.step hK.cap.1 (by omega)
              have hcl1 := hcr1.le
              refine Ct.callV (ct_J2_add_3 l g (fun q => s.heap.size ≤ q ∧ q ≠ b1) (XL x (ordL ah (L.take k))) ((ordL ah (L.take k)).length) cap al z (x (L.getD k 0)) u1 v1 (by omega) hz (fun w => absurd w.1 (Nat.not_le_of_lt (hel.lt (getD_mem (by omega))))) hu) X hL hl vb_J2_add_3 q1033 (hK.lst.recv hKV) rfl rfl (Nat.le_of_ble_eq_true rfl) dX3_ordered_75 ⟨Nat.le_of_ble_eq_true rfl, Nat.le_of_ble_eq_true rfl⟩ (by omega) (by omega) ⟨hK, (hel.new hE (fun i hi => ord_sub hi)).to (fun j hj => ⟨j, hj, rfl⟩) (fun _ w => w.1), (hel.ext hE) _ (getD_mem (by omega)), fun q hq => ⟨Nat.le_trans hE.1 hq, fun w => absurd ha_b1.lt (by omega)⟩⟩ (fun r H locs hL hp => ?_)
              obtain ⟨rfl, hK, hC1⟩ := hp
              have ha_b1 := ha_b1.chg hC1 (fun w => w.2 rfl)
              have hE := hCe _ ((hE.chg (P := (fun q => s.heap.size ≤ q))).trans (hC1.mono (fun _ w => w.1)))
              have ob0 := ob00.ext hE
              have hls := hls0.ext hE
              have hK := hK.to (ins_XL x (ordL ah (L.take k)) (L.getD k 0) hz) (fun _ h => h)
              rw [show (ordL ah (L.take k)).take z ++ (L.getD k 0) :: (ordL ah (L.take k)).drop z = insL ah (ordL ah (L.take k)) (L.getD k 0) by unfold insL; rw [hat2]] at hK
              refine lv_iinc (v := nI (k + 1)) (lv' := [(3, .int _), (0, .ref _), (1, .ref _), (2, .ref _), (4, .ref _), (5, .int _)]) hx hb dX3_ordered_78 hl (k := 3) rfl (nI_iinc _ 1 rfl) (by decide) rfl (fun ls hl => ?_)
              refine lv_goto (tgt := 10) hx hb dX3_ordered_81 (by decide) ?_
              rw [← ins_len ah (ordL ah (L.take k)) (L.getD k 0), ← ord_s ah (by omega)] at hK
              exact W.widen (by omega) (by omega) (ih10 (k + 1) _ (u + u1) (v + v1) (by omega) (by omega) hcr1 _ ha_b1 hK hE _ hL ls (lv_sub hl [1, 2, 3, 0] rfl))
            ·
              refine lv_aload_n hx hb dX3_ordered_42 rfl (lv_at hl 1 rfl) ?_
              refine lv_aload hx hb dX3_ordered_43 (lv_at hl 4 rfl) ?_
              refine lv_aload_n hx hb dX3_ordered_45 rfl (lv_at hl 2 rfl) ?_
              refine lv_iload hx hb dX3_ordered_46 (lv_at hl 5 rfl) ?_
              refine lv_iconst (v := nI 1) hx hb dX3_ordered_48 (by decide) ?_
              refine n_isub X (by omega) dX3_ordered_49 ?_
              refine Cp.callV (v := .ref (x ((ordL ah (L.take k)).getD (z - 1) 0))) (ct_X3_get l g (fun q => s.heap.size ≤ q) (XL x (ordL ah (L.take k))) ((ordL ah (L.take k)).length) b1 (z - 1) (by omega)) X hL hl vb_X3_get q1028 (ha_b1.recv hKV rfl) rfl rfl (Nat.le_of_ble_eq_true rfl) dX3_ordered_50 ⟨Nat.le_of_ble_eq_true rfl, Nat.le_of_ble_eq_true rfl⟩ (by omega) (by omega) ⟨al, sz_b1, lo_b1, ha_b1, hK.lst⟩ (fun locs hL => ?_)
              refine r_lam (As := [.ref (x (L.getD k 0)), .ref (x ((ordL ah (L.take k)).getD (z - 1) 0))]) (hrun _ _ (getD_mem (by omega)) (ord_sub (getD_mem (L := ordL ah (L.take k)) (by omega))) _ hE) X hL hl q1030 rfl (Nat.le_of_ble_eq_true rfl) dX3_ordered_53 (Nat.le_of_ble_eq_true rfl) (by omega) (by omega) (fun r H locs hL hp => ?_)
              obtain ⟨rfl, hE1⟩ := hp
              have hE := hE.trans hE1
              have ob0 := ob00.ext hE
              have hls := hls0.ext hE
              have ha_b1 := ha_b1.ext hE1
              have hK := hK.ext hE1
              refine b_ifeq (tgt := 67) X dX3_ordered_58 (by decide) (fun c_58 => ?_) (fun c_58 => ?_)
              ·
                refine lv_aload_n hx hb dX3_ordered_67 rfl (lv_at hl 2 rfl) ?_
                refine r_get (C := RX3) (T := TX3) (N := 1) (ci := 3) X in_X3 rfl 0 (Nat.le_of_ble_eq_true rfl) q178 (fun _ h => h) ha_b1 rfl dX3_ordered_68 ?_
                refine lv_iload hx hb dX3_ordered_71 (lv_at hl 5 rfl) ?_
                refine lv_aload hx hb dX3_ordered_73 (lv_at hl 4 rfl) ?_
                have hat2 : atN ah (L.getD k 0) (ordL ah (L.take k)) (ordL ah (L.take k)).length = z := (by rw [hat, atN_e c_39 c_58])
                obtain ⟨u1, v1, hu, hcr1⟩ := hcr.step hK.cap.1 (by omega)
                have hcl1 := hcr1.le
                refine Ct.callV (ct_J2_add_3 l g (fun q => s.heap.size ≤ q ∧ q ≠ b1) (XL x (ordL ah (L.take k))) ((ordL ah (L.take k)).length) cap al z (x (L.getD k 0)) u1 v1 (by omega) hz (fun w => absurd w.1 (Nat.not_le_of_lt (hel.lt (getD_mem (by omega))))) hu) X hL hl vb_J2_add_3 q1033 (hK.lst.recv hKV) rfl rfl (Nat.le_of_ble_eq_true rfl) dX3_ordered_75 ⟨Nat.le_of_ble_eq_true rfl, Nat.le_of_ble_eq_true rfl⟩ (by omega) (by omega) ⟨hK, (hel.new hE (fun i hi => ord_sub hi)).to (fun j hj => ⟨j, hj, rfl⟩) (fun _ w => w.1), (hel.ext hE) _ (getD_mem (by omega)), fun q hq => ⟨Nat.le_trans hE.1 hq, fun w => absurd ha_b1.lt (by omega)⟩⟩ (fun r H locs hL hp => ?_)
                obtain ⟨rfl, hK, hC1⟩ := hp
                have ha_b1 := ha_b1.chg hC1 (fun w => w.2 rfl)
                have hE := hCe _ ((hE.chg (P := (fun q => s.heap.size ≤ q))).trans (hC1.mono (fun _ w => w.1)))
                have ob0 := ob00.ext hE
                have hls := hls0.ext hE
                have hK := hK.to (ins_XL x (ordL ah (L.take k)) (L.getD k 0) hz) (fun _ h => h)
                rw [show (ordL ah (L.take k)).take z ++ (L.getD k 0) :: (ordL ah (L.take k)).drop z = insL ah (ordL ah (L.take k)) (L.getD k 0) by unfold insL; rw [hat2]] at hK
                refine lv_iinc (v := nI (k + 1)) (lv' := [(3, .int _), (0, .ref _), (1, .ref _), (2, .ref _), (4, .ref _), (5, .int _)]) hx hb dX3_ordered_78 hl (k := 3) rfl (nI_iinc _ 1 rfl) (by decide) rfl (fun ls hl => ?_)
                refine lv_goto (tgt := 10) hx hb dX3_ordered_81 (by decide) ?_
                rw [← ins_len ah (ordL ah (L.take k)) (L.getD k 0), ← ord_s ah (by omega)] at hK
                exact W.widen (by omega) (by omega) (ih10 (k + 1) _ (u + u1) (v + v1) (by omega) (by omega) hcr1 _ ha_b1 hK hE _ hL ls (lv_sub hl [1, 2, 3, 0] rfl))
              ·
                refine lv_iinc (v := (nI z + Int32.ofInt (-1))) (lv' := [(5, .int _), (0, .ref _), (1, .ref _), (2, .ref _), (3, .int _), (4, .ref _)]) hx hb dX3_ordered_61 hl (k := 5) rfl (rfl) (by decide) rfl (fun ls hl => ?_)
                refine lv_goto (tgt := 37) hx hb dX3_ordered_64 (by decide) ?_
                rw [dec_z c_39] at hl
                exact W.widen (by omega) (by omega) (ih37 (z - 1) (by omega) (by omega) (by rw [hat, atN_s c_39 c_58]) _ ha_b1 hK hE _ hL ls (lv_sub hl [1, 2, 3, 4, 5, 0] rfl))
        exact W.widen (by omega) (by omega) (L37 ((ordL ah (L.take k)).length + 1) ((ordL ah (L.take k)).length) (by omega) (Nat.le_refl _) rfl _ ha_b1 hK hE _ hL ls (lv_sub hl [2, 3, 4, 5, 1, 0] rfl))
  exact W.widen (by omega) (by omega) (L10 (L.length + 1) 0 0 0 0 (by omega) (by omega) (Or.inl ⟨rfl, rfl, rfl⟩) _ ha_b1 hK hE _ hL ls (lv_sub hl [2, 3, 1, 0] rfl))
theorem vb_X3_ordered : VB yX3_ordered cX3_ordered 6 (some (.object "OfferSky$Bag")) 1 := ⟨q1024, q1025, q101, q1026, ⟨by decide, by decide, by decide +kernel⟩⟩
