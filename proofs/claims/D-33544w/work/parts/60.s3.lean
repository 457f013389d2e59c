/-! bags: loops -/

set_option maxRecDepth 100000 in
set_option maxHeartbeats 4000000 in
theorem ct_X3_copy (l : Launch) (g : GT) (P0 : Nat → Prop) (x : Nat → Nat) (L : List Nat) (a : Nat) (hLn : L.length ≤ 40) : Ct l g yX3_copy cX3_copy 3 (some (.object "OfferSky$Bag")) 12 (0 + 8) (0 + 140) [.ref a] (fun H => BagR g P0 (XL x L) L.length a H ∧ ElO g x L H) (fun r H H1 => ∃ b, BagR g (fun q => H.size ≤ q) (XL x (L)) (L).length b H1 ∧ r = some (.ref b) ∧ Ext H H1) := by
  refine Ct.of (by decide) (Nat.le_of_ble_eq_true rfl) ?_
  intro p e s m args below meth c X hP ls hl
  have hx := X.1
  have hb := X.2.1
  have hKV := X.2.2.2.2.2.2.2.1.1
  have hL : ∀ q ∈ ([] : List Loc), gLo g ≤ q.base := fun _ h => by cases h
  obtain ⟨⟨al0, pa, la0, ob00, hls0⟩, hel⟩ := hP
  have hl : lv_has ls 3 [(0, .ref a)] := hl
  have hC : Chg (fun q => s.heap.size ≤ q) s.heap s.heap := Chg.rfl'
  have hPn : ∀ q, s.heap.size ≤ q → s.heap.size ≤ q := fun _ h => h
  have hE : Ext s.heap s.heap := Ext.rfl'
  have hCe : ∀ H1, Chg (fun q => s.heap.size ≤ q) s.heap H1 → Ext s.heap H1 := fun _ h => h.ext (fun q hq z => absurd z (Nat.not_le_of_lt hq))
  have ob0 := ob00.ext hE
  have hls := hls0.ext hE
  obtain ⟨b1, hb1⟩ : ∃ b, s.heap.size = b := ⟨_, rfl⟩
  have sz_b1 : s.heap.size ≤ b1 := by rw [← hb1]; exact Nat.le_refl _
  have lo_b1 : gLo g ≤ b1 := Nat.le_trans X.2.2.2.2.2.2.2.1.2.1 sz_b1
  have p_b1 : (fun q => s.heap.size ≤ q) b1 := hPn b1 sz_b1
  have ne_a_b1 : a ≠ b1 := Nat.ne_of_lt (by rw [← hb1]; exact ob0.lt)
  refine r_new (C := RX3) (T := TX3) (N := 1) (ci := 3) X in_X3 tyX3 tyX3_ok q336 q147 q101 rfl (fs := [.null]) (fun j hj => by rcases j with _ | _ | _ | _ | _ | j <;> first | rfl | omega) (by show _ + 1 ≤ (0 + 8); omega) (by show _ + 1 ≤ (0 + 140); omega) dX3_copy_0 (fun H ha_b1 hE_b1 hz_b1 => ?_)
  rw [hb1] at ha_b1 hz_b1 ⊢
  have ob0 := ob0.ext hE_b1
  have hC := hC.trans hE_b1.chg
  have hE := hCe _ hC
  refine lv_dup hx hb dX3_copy_3 rfl ?_
  refine Ct.callI (ct_X3_init l g (fun q => s.heap.size ≤ q) b1 sz_b1 lo_b1) X hL hl ib_X3_init q337 rfl rfl (Nat.le_of_ble_eq_true rfl) dX3_copy_4 ⟨Nat.le_of_ble_eq_true rfl, Nat.le_of_ble_eq_true rfl⟩ (by omega) (by omega) ⟨ha_b1, fun q hq => Nat.le_trans hC.1 hq⟩ (fun r H locs hL hp => ?_)
  obtain ⟨al, rfl, ha_b1, hK0, hC1⟩ := hp
  have hC := hC.trans hC1
  have hE := hCe _ hC
  have hK := hK0 (XL x [])
  have ob0 := ob00.ext hE
  have hls := hls0.ext hE
  refine lv_astore_n (lv' := [(1, .ref _), (0, .ref _)]) hx hb dX3_copy_7 rfl hl (by decide) rfl (fun ls hl => ?_)
  refine lv_iconst (v := nI 0) hx hb dX3_copy_8 (by decide) ?_
  refine lv_istore_n (lv' := [(2, .int _), (1, .ref _), (0, .ref _)]) hx hb dX3_copy_9 rfl hl (by decide) rfl (fun ls hl => ?_)
  have L10 : ∀ (fuel : Nat) (k cap u v : Nat), L.length - k < fuel → (k ≤ L.length) → (CapR cap u v) → ∀ (H : Heap), Ob g b1 3 [.ref al] H → LstK g (fun q => s.heap.size ≤ q ∧ q ≠ b1) (XL x (L.take k)) (L.take k).length cap al H → Ext s.heap H → ∀ (locs : List Loc), (∀ q ∈ locs, gLo g ≤ q.base) → ∀ (ls : Array Slot), lv_has ls 3 [(0, .ref a), (1, .ref b1), (2, .int (nI k))] → W p l e (rmL 12 (0 + 8) (0 + 140)) s m args below meth c H locs (2 + u) (4 + v) (MQ below (Qcg (fun r H H1 => ∃ b, BagR g (fun q => H.size ≤ q) (XL x (L)) (L).length b H1 ∧ r = some (.ref b) ∧ Ext H H1)) args s (0 + 8) (0 + 140) (fre g)) (F0 m 10 ls []) := by
    intro fuel
    induction fuel with
    | zero => intro k cap u v hfu; exact absurd hfu (Nat.not_lt_zero _)
    | succ fuel ih10 =>
      intro k cap u v hfu hk hcr H ha_b1 hK hE locs hL ls hl
      have ob0 := ob00.ext hE
      have hls := hls0.ext hE
      have hcl := hcr.le
      refine lv_iload_n hx hb dX3_copy_10 rfl (lv_at hl 2 rfl) ?_
      refine lv_aload_n hx hb dX3_copy_11 rfl (lv_at hl 0 rfl) ?_
      refine r_get (C := RX3) (T := TX3) (N := 1) (ci := 3) X in_X3 rfl 0 (Nat.le_of_ble_eq_true rfl) q178 (fun _ h => h) ob0 rfl dX3_copy_12 ?_
      refine Cp.callV (v := .int (nI L.length)) (ct_J2_size l g (fun q => P0 q ∧ q ≠ a) (XL x L) L.length al0 ) X hL hl vb_J2_size q338 (hls.recv hKV) rfl rfl (Nat.le_of_ble_eq_true rfl) dX3_copy_15 ⟨Nat.le_of_ble_eq_true rfl, Nat.le_of_ble_eq_true rfl⟩ (by omega) (by omega) hls (fun locs hL => ?_)
      refine n_icmp_ge (tgt := 39) X dX3_copy_18 (by decide) (by omega) (by omega) (fun c_18 => ?_) (fun c_18 => ?_)
      ·
        refine lv_aload_n hx hb dX3_copy_39 rfl (lv_at hl 1 rfl) ?_
        obtain rfl : k = L.length := by omega
        rw [List.take_length] at hK
        exact r_aret X hL rfl (Or.inl ⟨_, rfl⟩) (Or.inr ⟨_, rfl⟩) dX3_copy_40 (by omega) (by omega) ⟨b1, ⟨al, sz_b1, lo_b1, ha_b1, hK.lst⟩, rfl, hE⟩
      ·
        refine lv_aload_n hx hb dX3_copy_21 rfl (lv_at hl 1 rfl) ?_
        refine lv_aload_n hx hb dX3_copy_22 rfl (lv_at hl 0 rfl) ?_
        refine r_get (C := RX3) (T := TX3) (N := 1) (ci := 3) X in_X3 rfl 0 (Nat.le_of_ble_eq_true rfl) q178 (fun _ h => h) ob0 rfl dX3_copy_23 ?_
        refine lv_iload_n hx hb dX3_copy_26 rfl (lv_at hl 2 rfl) ?_
        refine Cp.callV (v := .ref (x (L.getD k 0))) (ct_J2_get l g (fun q => P0 q ∧ q ≠ a) (XL x L) L.length al0 k (by omega)) X hL hl vb_J2_get q342 (hls.recv hKV) rfl rfl (Nat.le_of_ble_eq_true rfl) dX3_copy_27 ⟨Nat.le_of_ble_eq_true rfl, Nat.le_of_ble_eq_true rfl⟩ (by omega) (by omega) hls (fun locs hL => ?_)
        obtain ⟨u1, v1, hu, hcr1⟩ := hcr.step hK.cap.1 (by have := take_le L k; omega)
        have hcl1 := hcr1.le
        refine Ct.callV (ct_X3_adds l g (fun q => s.heap.size ≤ q) (XL x (L.take k)) ((L.take k).length) cap b1 al (x (L.getD k 0)) u1 v1 (by have := take_le L k; omega) sz_b1 (Nat.not_le_of_lt (hel.lt (getD_mem (by omega)))) hu) X hL hl vb_X3_adds q356 (ha_b1.recv hKV rfl) rfl rfl (Nat.le_of_ble_eq_true rfl) dX3_copy_30 ⟨Nat.le_of_ble_eq_true rfl, Nat.le_of_ble_eq_true rfl⟩ (by omega) (by omega) ⟨⟨ha_b1, hK, hel.new hE (fun i hi => List.mem_of_mem_take hi), (hel.ext hE) _ (getD_mem (by omega))⟩, fun q hq => Nat.le_trans hE.1 hq⟩ (fun r H locs hL hp => ?_)
        obtain ⟨rfl, ha_b1, hK, hC1⟩ := hp
        have hE := hCe _ ((hE.chg (P := (fun q => s.heap.size ≤ q))).trans hC1)
        have ob0 := ob00.ext hE
        have hls := hls0.ext hE
        have hK := hK.to (XL_app x (L.take k) (L.getD k 0)) (fun _ h => h)
        refine lv_iinc (v := nI (k + 1)) (lv' := [(2, .int _), (0, .ref _), (1, .ref _)]) hx hb dX3_copy_33 hl (k := 2) rfl (nI_iinc _ 1 rfl) (by decide) rfl (fun ls hl => ?_)
        refine lv_goto (tgt := 10) hx hb dX3_copy_36 (by decide) ?_
        have eF := take_app (L := L) (k := k) (by omega)
        rw [len_app, ← eF] at hK
        exact W.widen (by omega) (by omega) (ih10 (k + 1) _ (u + u1) (v + v1) (by omega) (by omega) hcr1 _ ha_b1 hK hE _ hL ls (lv_sub hl [1, 2, 0] rfl))
  exact W.widen (by omega) (by omega) (L10 (L.length + 1) 0 0 0 0 (by omega) (by omega) (Or.inl ⟨rfl, rfl, rfl⟩) _ ha_b1 hK hE _ hL ls (lv_sub hl [2, 1, 0] rfl))
theorem vb_X3_copy : VB yX3_copy cX3_copy 3 (some (.object "OfferSky$Bag")) 0 := ⟨q333, q334, q101, q335, ⟨by decide, by decide, by decide +kernel⟩⟩

set_option maxRecDepth 100000 in
set_option maxHeartbeats 4000000 in
theorem ct_X3_those (l : Launch) (g : GT) (P0 : Nat → Prop) (x : Nat → Nat) (L : List Nat) (a : Nat) (la : Nat) (bl : Nat → Bool) (hLn : L.length ≤ 40) : Ct l g yX3_those cX3_those 4 (some (.object "OfferSky$Bag")) 12 (0 + 8) (0 + 140) [.ref a, .ref la] (fun H => BagR g P0 (XL x L) L.length a H ∧ ElO g x L H ∧ ∀ i, i ∈ L → ∀ H1, Ext H H1 → LamRun l g xCh la [.ref (x i)] 10 0 0 H1 (PoB (bl i))) (fun r H H1 => ∃ b, BagR g (fun q => H.size ≤ q) (XL x (L.filter bl)) (L.filter bl).length b H1 ∧ r = some (.ref b) ∧ Ext H H1) := by
  refine Ct.of (by decide) (Nat.le_of_ble_eq_true rfl) ?_
  intro p e s m args below meth c X hP ls hl
  have hx := X.1
  have hb := X.2.1
  have hKV := X.2.2.2.2.2.2.2.1.1
  have hL : ∀ q ∈ ([] : List Loc), gLo g ≤ q.base := fun _ h => by cases h
  obtain ⟨⟨al0, pa, la0, ob00, hls0⟩, hel, hrun⟩ := hP
  have hl : lv_has ls 4 [(0, .ref a), (1, .ref la)] := hl
  have hC : Chg (fun q => s.heap.size ≤ q) s.heap s.heap := Chg.rfl'
  have hPn : ∀ q, s.heap.size ≤ q → s.heap.size ≤ q := fun _ h => h
  have hE : Ext s.heap s.heap := Ext.rfl'
  have hCe : ∀ H1, Chg (fun q => s.heap.size ≤ q) s.heap H1 → Ext s.heap H1 := fun _ h => h.ext (fun q hq z => absurd z (Nat.not_le_of_lt hq))
  have ob0 := ob00.ext hE
  have hls := hls0.ext hE
  obtain ⟨b1, hb1⟩ : ∃ b, s.heap.size = b := ⟨_, rfl⟩
  have sz_b1 : s.heap.size ≤ b1 := by rw [← hb1]; exact Nat.le_refl _
  have lo_b1 : gLo g ≤ b1 := Nat.le_trans X.2.2.2.2.2.2.2.1.2.1 sz_b1
  have p_b1 : (fun q => s.heap.size ≤ q) b1 := hPn b1 sz_b1
  have ne_a_b1 : a ≠ b1 := Nat.ne_of_lt (by rw [← hb1]; exact ob0.lt)
  refine r_new (C := RX3) (T := TX3) (N := 1) (ci := 3) X in_X3 tyX3 tyX3_ok q336 q147 q101 rfl (fs := [.null]) (fun j hj => by rcases j with _ | _ | _ | _ | _ | j <;> first | rfl | omega) (by show _ + 1 ≤ (0 + 8); omega) (by show _ + 1 ≤ (0 + 140); omega) dX3_those_0 (fun H ha_b1 hE_b1 hz_b1 => ?_)
  rw [hb1] at ha_b1 hz_b1 ⊢
  have ob0 := ob0.ext hE_b1
  have hC := hC.trans hE_b1.chg
  have hE := hCe _ hC
  refine lv_dup hx hb dX3_those_3 rfl ?_
  refine Ct.callI (ct_X3_init l g (fun q => s.heap.size ≤ q) b1 sz_b1 lo_b1) X hL hl ib_X3_init q337 rfl rfl (Nat.le_of_ble_eq_true rfl) dX3_those_4 ⟨Nat.le_of_ble_eq_true rfl, Nat.le_of_ble_eq_true rfl⟩ (by omega) (by omega) ⟨ha_b1, fun q hq => Nat.le_trans hC.1 hq⟩ (fun r H locs hL hp => ?_)
  obtain ⟨al, rfl, ha_b1, hK0, hC1⟩ := hp
  have hC := hC.trans hC1
  have hE := hCe _ hC
  have hK := hK0 (XL x [])
  have ob0 := ob00.ext hE
  have hls := hls0.ext hE
  refine lv_astore_n (lv' := [(2, .ref _), (0, .ref _), (1, .ref _)]) hx hb dX3_those_7 rfl hl (by decide) rfl (fun ls hl => ?_)
  refine lv_iconst (v := nI 0) hx hb dX3_those_8 (by decide) ?_
  refine lv_istore_n (lv' := [(3, .int _), (2, .ref _), (0, .ref _), (1, .ref _)]) hx hb dX3_those_9 rfl hl (by decide) rfl (fun ls hl => ?_)
  have L10 : ∀ (fuel : Nat) (k cap u v : Nat), L.length - k < fuel → (k ≤ L.length) → (CapR cap u v) → ∀ (H : Heap), Ob g b1 3 [.ref al] H → LstK g (fun q => s.heap.size ≤ q ∧ q ≠ b1) (XL x ((L.take k).filter bl)) ((L.take k).filter bl).length cap al H → Ext s.heap H → ∀ (locs : List Loc), (∀ q ∈ locs, gLo g ≤ q.base) → ∀ (ls : Array Slot), lv_has ls 4 [(0, .ref a), (1, .ref la), (2, .ref b1), (3, .int (nI k))] → W p l e (rmL 12 (0 + 8) (0 + 140)) s m args below meth c H locs (2 + 0 + u) (4 + 0 + v) (MQ below (Qcg (fun r H H1 => ∃ b, BagR g (fun q => H.size ≤ q) (XL x (L.filter bl)) (L.filter bl).length b H1 ∧ r = some (.ref b) ∧ Ext H H1)) args s (0 + 8) (0 + 140) (fre g)) (F0 m 10 ls []) := by
    intro fuel
    induction fuel with
    | zero => intro k cap u v hfu; exact absurd hfu (Nat.not_lt_zero _)
    | succ fuel ih10 =>
      intro k cap u v hfu hk hcr H ha_b1 hK hE locs hL ls hl
      have ob0 := ob00.ext hE
      have hls := hls0.ext hE
      have hcl := hcr.le
      refine lv_iload_n hx hb dX3_those_10 rfl (lv_at hl 3 rfl) ?_
      refine lv_aload_n hx hb dX3_those_11 rfl (lv_at hl 0 rfl) ?_
      refine r_get (C := RX3) (T := TX3) (N := 1) (ci := 3) X in_X3 rfl 0 (Nat.le_of_ble_eq_true rfl) q178 (fun _ h => h) ob0 rfl dX3_those_12 ?_
      refine Cp.callV (v := .int (nI L.length)) (ct_J2_size l g (fun q => P0 q ∧ q ≠ a) (XL x L) L.length al0 ) X hL hl vb_J2_size q338 (hls.recv hKV) rfl rfl (Nat.le_of_ble_eq_true rfl) dX3_those_15 ⟨Nat.le_of_ble_eq_true rfl, Nat.le_of_ble_eq_true rfl⟩ (by omega) (by omega) hls (fun locs hL => ?_)
      refine n_icmp_ge (tgt := 56) X dX3_those_18 (by decide) (by omega) (by omega) (fun c_18 => ?_) (fun c_18 => ?_)
      ·
        refine lv_aload_n hx hb dX3_those_56 rfl (lv_at hl 2 rfl) ?_
        obtain rfl : k = L.length := by omega
        rw [List.take_length] at hK
        exact r_aret X hL rfl (Or.inl ⟨_, rfl⟩) (Or.inr ⟨_, rfl⟩) dX3_those_57 (by omega) (by omega) ⟨b1, ⟨al, sz_b1, lo_b1, ha_b1, hK.lst⟩, rfl, hE⟩
      ·
        refine lv_aload_n hx hb dX3_those_21 rfl (lv_at hl 1 rfl) ?_
        refine lv_aload_n hx hb dX3_those_22 rfl (lv_at hl 0 rfl) ?_
        refine r_get (C := RX3) (T := TX3) (N := 1) (ci := 3) X in_X3 rfl 0 (Nat.le_of_ble_eq_true rfl) q178 (fun _ h => h) ob0 rfl dX3_those_23 ?_
        refine lv_iload_n hx hb dX3_those_26 rfl (lv_at hl 3 rfl) ?_
        refine Cp.callV (v := .ref (x (L.getD k 0))) (ct_J2_get l g (fun q => P0 q ∧ q ≠ a) (XL x L) L.length al0 k (by omega)) X hL hl vb_J2_get q342 (hls.recv hKV) rfl rfl (Nat.le_of_ble_eq_true rfl) dX3_those_27 ⟨Nat.le_of_ble_eq_true rfl, Nat.le_of_ble_eq_true rfl⟩ (by omega) (by omega) hls (fun locs hL => ?_)
        refine r_lam (As := [.ref (x (L.getD k 0))]) (hrun _ (getD_mem (by omega)) _ hE) X hL hl q550 rfl (Nat.le_of_ble_eq_true rfl) dX3_those_30 (Nat.le_of_ble_eq_true rfl) (by omega) (by omega) (fun r H locs hL hp => ?_)
        obtain ⟨rfl, hE1⟩ := hp
        have hE := hE.trans hE1
        have ob0 := ob00.ext hE
        have hls := hls0.ext hE
        have ha_b1 := ha_b1.ext hE1
        have hK := hK.ext hE1
        refine b_ifeq (tgt := 50) X dX3_those_35 (by decide) (fun c_35 => ?_) (fun c_35 => ?_)
        ·
          refine lv_iinc (v := nI (k + 1)) (lv' := [(3, .int _), (0, .ref _), (1, .ref _), (2, .ref _)]) hx hb dX3_those_50 hl (k := 3) rfl (nI_iinc _ 1 rfl) (by decide) rfl (fun ls hl => ?_)
          refine lv_goto (tgt := 10) hx hb dX3_those_53 (by decide) ?_
          have eF := flt_f (L := L) (k := k) (p := bl) (by omega) c_35
          rw [← eF] at hK
          exact W.widen (by omega) (by omega) (ih10 (k + 1) _ u v (by omega) (by omega) hcr _ ha_b1 hK hE _ hL ls (lv_sub hl [1, 2, 3, 0] rfl))
        ·
          refine lv_aload_n hx hb dX3_those_38 rfl (lv_at hl 2 rfl) ?_
          refine lv_aload_n hx hb dX3_those_39 rfl (lv_at hl 0 rfl) ?_
          refine r_get (C := RX3) (T := TX3) (N := 1) (ci := 3) X in_X3 rfl 0 (Nat.le_of_ble_eq_true rfl) q178 (fun _ h => h) ob0 rfl dX3_those_40 ?_
          refine lv_iload_n hx hb dX3_those_43 rfl (lv_at hl 3 rfl) ?_
          refine Cp.callV (v := .ref (x (L.getD k 0))) (ct_J2_get l g (fun q => P0 q ∧ q ≠ a) (XL x L) L.length al0 k (by omega)) X hL hl vb_J2_get q342 (hls.recv hKV) rfl rfl (Nat.le_of_ble_eq_true rfl) dX3_those_44 ⟨Nat.le_of_ble_eq_true rfl, Nat.le_of_ble_eq_true rfl⟩ (by omega) (by omega) hls (fun locs hL => ?_)
          obtain ⟨u1, v1, hu, hcr1⟩ := hcr.step hK.cap.1 (by have := flt_le L k bl; omega)
          have hcl1 := hcr1.le
          refine Ct.callV (ct_X3_adds l g (fun q => s.heap.size ≤ q) (XL x ((L.take k).filter bl)) (((L.take k).filter bl).length) cap b1 al (x (L.getD k 0)) u1 v1 (by have := flt_le L k bl; omega) sz_b1 (Nat.not_le_of_lt (hel.lt (getD_mem (by omega)))) hu) X hL hl vb_X3_adds q356 (ha_b1.recv hKV rfl) rfl rfl (Nat.le_of_ble_eq_true rfl) dX3_those_47 ⟨Nat.le_of_ble_eq_true rfl, Nat.le_of_ble_eq_true rfl⟩ (by omega) (by omega) ⟨⟨ha_b1, hK, hel.new hE (fun i hi => sub_flt hi), (hel.ext hE) _ (getD_mem (by omega))⟩, fun q hq => Nat.le_trans hE.1 hq⟩ (fun r H locs hL hp => ?_)
          obtain ⟨rfl, ha_b1, hK, hC1⟩ := hp
          have hE := hCe _ ((hE.chg (P := (fun q => s.heap.size ≤ q))).trans hC1)
          have ob0 := ob00.ext hE
          have hls := hls0.ext hE
          have hK := hK.to (XL_app x ((L.take k).filter bl) (L.getD k 0)) (fun _ h => h)
          refine lv_iinc (v := nI (k + 1)) (lv' := [(3, .int _), (0, .ref _), (1, .ref _), (2, .ref _)]) hx hb dX3_those_50 hl (k := 3) rfl (nI_iinc _ 1 rfl) (by decide) rfl (fun ls hl => ?_)
          refine lv_goto (tgt := 10) hx hb dX3_those_53 (by decide) ?_
          have eF := flt_t (L := L) (k := k) (p := bl) (by omega) c_35
          rw [len_app, ← eF] at hK
          exact W.widen (by omega) (by omega) (ih10 (k + 1) _ (u + u1) (v + v1) (by omega) (by omega) hcr1 _ ha_b1 hK hE _ hL ls (lv_sub hl [1, 2, 3, 0] rfl))
  exact W.widen (by omega) (by omega) (L10 (L.length + 1) 0 0 0 0 (by omega) (by omega) (Or.inl ⟨rfl, rfl, rfl⟩) _ ha_b1 hK hE _ hL ls (lv_sub hl [2, 3, 1, 0] rfl))
theorem vb_X3_those : VB yX3_those cX3_those 4 (some (.object "OfferSky$Bag")) 1 := ⟨q546, q547, q101, q548, ⟨by decide, by decide, by decide +kernel⟩⟩

set_option maxRecDepth 100000 in
set_option maxHeartbeats 4000000 in
theorem ct_X3_thoseb (l : Launch) (g : GT) (P0 : Nat → Prop) (x : Nat → Nat) (L : List Nat) (a : Nat) (la : Nat) (bl : Nat → Bool) (hLn : L.length ≤ 40) : Ct l g yX3_those cX3_those 4 (some (.object "OfferSky$Bag")) 18 (L.length + 8) (3 * L.length + 140) [.ref a, .ref la] (fun H => BagR g P0 (XL x L) L.length a H ∧ ElO g x L H ∧ ∀ i, i ∈ L → ∀ H1, Ext H H1 → LamRun l g xCh la [.ref (x i)] 16 1 3 H1 (PoB (bl i))) (fun r H H1 => ∃ b, BagR g (fun q => H.size ≤ q) (XL x (L.filter bl)) (L.filter bl).length b H1 ∧ r = some (.ref b) ∧ Ext H H1) := by
  refine Ct.of (by decide) (Nat.le_of_ble_eq_true rfl) ?_
  intro p e s m args below meth c X hP ls hl
  have hx := X.1
  have hb := X.2.1
  have hKV := X.2.2.2.2.2.2.2.1.1
  have hL : ∀ q ∈ ([] : List Loc), gLo g ≤ q.base := fun _ h => by cases h
  obtain ⟨⟨al0, pa, la0, ob00, hls0⟩, hel, hrun⟩ := hP
  have hl : lv_has ls 4 [(0, .ref a), (1, .ref la)] := hl
  have hC : Chg (fun q => s.heap.size ≤ q) s.heap s.heap := Chg.rfl'
  have hPn : ∀ q, s.heap.size ≤ q → s.heap.size ≤ q := fun _ h => h
  have hE : Ext s.heap s.heap := Ext.rfl'
  have hCe : ∀ H1, Chg (fun q => s.heap.size ≤ q) s.heap H1 → Ext s.heap H1 := fun _ h => h.ext (fun q hq z => absurd z (Nat.not_le_of_lt hq))
  have ob0 := ob00.ext hE
  have hls := hls0.ext hE
  obtain ⟨b1, hb1⟩ : ∃ b, s.heap.size = b := ⟨_, rfl⟩
  have sz_b1 : s.heap.size ≤ b1 := by rw [← hb1]; exact Nat.le_refl _
  have lo_b1 : gLo g ≤ b1 := Nat.le_trans X.2.2.2.2.2.2.2.1.2.1 sz_b1
  have p_b1 : (fun q => s.heap.size ≤ q) b1 := hPn b1 sz_b1
  have ne_a_b1 : a ≠ b1 := Nat.ne_of_lt (by rw [← hb1]; exact ob0.lt)
  refine r_new (C := RX3) (T := TX3) (N := 1) (ci := 3) X in_X3 tyX3 tyX3_ok q336 q147 q101 rfl (fs := [.null]) (fun j hj => by rcases j with _ | _ | _ | _ | _ | j <;> first | rfl | omega) (by show _ + 1 ≤ (L.length + 8); omega) (by show _ + 1 ≤ (3 * L.length + 140); omega) dX3_those_0 (fun H ha_b1 hE_b1 hz_b1 => ?_)
  rw [hb1] at ha_b1 hz_b1 ⊢
  have ob0 := ob0.ext hE_b1
  have hC := hC.trans hE_b1.chg
  have hE := hCe _ hC
  refine lv_dup hx hb dX3_those_3 rfl ?_
  refine Ct.callI (ct_X3_init l g (fun q => s.heap.size ≤ q) b1 sz_b1 lo_b1) X hL hl ib_X3_init q337 rfl rfl (Nat.le_of_ble_eq_true rfl) dX3_those_4 ⟨Nat.le_of_ble_eq_true rfl, Nat.le_of_ble_eq_true rfl⟩ (by omega) (by omega) ⟨ha_b1, fun q hq => Nat.le_trans hC.1 hq⟩ (fun r H locs hL hp => ?_)
  obtain ⟨al, rfl, ha_b1, hK0, hC1⟩ := hp
  have hC := hC.trans hC1
  have hE := hCe _ hC
  have hK := hK0 (XL x [])
  have ob0 := ob00.ext hE
  have hls := hls0.ext hE
  refine lv_astore_n (lv' := [(2, .ref _), (0, .ref _), (1, .ref _)]) hx hb dX3_those_7 rfl hl (by decide) rfl (fun ls hl => ?_)
  refine lv_iconst (v := nI 0) hx hb dX3_those_8 (by decide) ?_
  refine lv_istore_n (lv' := [(3, .int _), (2, .ref _), (0, .ref _), (1, .ref _)]) hx hb dX3_those_9 rfl hl (by decide) rfl (fun ls hl => ?_)
  have L10 : ∀ (fuel : Nat) (k cap u v : Nat), L.length - k < fuel → (k ≤ L.length) → (CapR cap u v) → ∀ (H : Heap), Ob g b1 3 [.ref al] H → LstK g (fun q => s.heap.size ≤ q ∧ q ≠ b1) (XL x ((L.take k).filter bl)) ((L.take k).filter bl).length cap al H → Ext s.heap H → ∀ (locs : List Loc), (∀ q ∈ locs, gLo g ≤ q.base) → ∀ (ls : Array Slot), lv_has ls 4 [(0, .ref a), (1, .ref la), (2, .ref b1), (3, .int (nI k))] → W p l e (rmL 18 (L.length + 8) (3 * L.length + 140)) s m args below meth c H locs (2 + k + u) (4 + 3 * k + v) (MQ below (Qcg (fun r H H1 => ∃ b, BagR g (fun q => H.size ≤ q) (XL x (L.filter bl)) (L.filter bl).length b H1 ∧ r = some (.ref b) ∧ Ext H H1)) args s (L.length + 8) (3 * L.length + 140) (fre g)) (F0 m 10 ls []) := by
    intro fuel
    induction fuel with
    | zero => intro k cap u v hfu; exact absurd hfu (Nat.not_lt_zero _)
    | succ fuel ih10 =>
      intro k cap u v hfu hk hcr H ha_b1 hK hE locs hL ls hl
      have ob0 := ob00.ext hE
      have hls := hls0.ext hE
      have hcl := hcr.le
      refine lv_iload_n hx hb dX3_those_10 rfl (lv_at hl 3 rfl) ?_
      refine lv_aload_n hx hb dX3_those_11 rfl (lv_at hl 0 rfl) ?_
      refine r_get (C := RX3) (T := TX3) (N := 1) (ci := 3) X in_X3 rfl 0 (Nat.le_of_ble_eq_true rfl) q178 (fun _ h => h) ob0 rfl dX3_those_12 ?_
      refine Cp.callV (v := .int (nI L.length)) (ct_J2_size l g (fun q => P0 q ∧ q ≠ a) (XL x L) L.length al0 ) X hL hl vb_J2_size q338 (hls.recv hKV) rfl rfl (Nat.le_of_ble_eq_true rfl) dX3_those_15 ⟨Nat.le_of_ble_eq_true rfl, Nat.le_of_ble_eq_true rfl⟩ (by omega) (by omega) hls (fun locs hL => ?_)
      refine n_icmp_ge (tgt := 56) X dX3_those_18 (by decide) (by omega) (by omega) (fun c_18 => ?_) (fun c_18 => ?_)
      ·
        refine lv_aload_n hx hb dX3_those_56 rfl (lv_at hl 2 rfl) ?_
        obtain rfl : k = L.length := by omega
        rw [List.take_length] at hK
        exact r_aret X hL rfl (Or.inl ⟨_, rfl⟩) (Or.inr ⟨_, rfl⟩) dX3_those_57 (by omega) (by omega) ⟨b1, ⟨al, sz_b1, lo_b1, ha_b1, hK.lst⟩, rfl, hE⟩
      ·
        refine lv_aload_n hx hb dX3_those_21 rfl (lv_at hl 1 rfl) ?_
        refine lv_aload_n hx hb dX3_those_22 rfl (lv_at hl 0 rfl) ?_
        refine r_get (C := RX3) (T := TX3) (N := 1) (ci := 3) X in_X3 rfl 0 (Nat.le_of_ble_eq_true rfl) q178 (fun _ h => h) ob0 rfl dX3_those_23 ?_
        refine lv_iload_n hx hb dX3_those_26 rfl (lv_at hl 3 rfl) ?_
        refine Cp.callV (v := .ref (x (L.getD k 0))) (ct_J2_get l g (fun q => P0 q ∧ q ≠ a) (XL x L) L.length al0 k (by omega)) X hL hl vb_J2_get q342 (hls.recv hKV) rfl rfl (Nat.le_of_ble_eq_true rfl) dX3_those_27 ⟨Nat.le_of_ble_eq_true rfl, Nat.le_of_ble_eq_true rfl⟩ (by omega) (by omega) hls (fun locs hL => ?_)
        refine r_lam (As := [.ref (x (L.getD k 0))]) (hrun _ (getD_mem (by omega)) _ hE) X hL hl q550 rfl (Nat.le_of_ble_eq_true rfl) dX3_those_30 (Nat.le_of_ble_eq_true rfl) (by omega) (by omega) (fun r H locs hL hp => ?_)
        obtain ⟨rfl, hE1⟩ := hp
        have hE := hE.trans hE1
        have ob0 := ob00.ext hE
        have hls := hls0.ext hE
        have ha_b1 := ha_b1.ext hE1
        have hK := hK.ext hE1
        refine b_ifeq (tgt := 50) X dX3_those_35 (by decide) (fun c_35 => ?_) (fun c_35 => ?_)
        ·
          refine lv_iinc (v := nI (k + 1)) (lv' := [(3, .int _), (0, .ref _), (1, .ref _), (2, .ref _)]) hx hb dX3_those_50 hl (k := 3) rfl (nI_iinc _ 1 rfl) (by decide) rfl (fun ls hl => ?_)
          refine lv_goto (tgt := 10) hx hb dX3_those_53 (by decide) ?_
          have eF := flt_f (L := L) (k := k) (p := bl) (by omega) c_35
          rw [← eF] at hK
          exact W.widen (by omega) (by omega) (ih10 (k + 1) _ u v (by omega) (by omega) hcr _ ha_b1 hK hE _ hL ls (lv_sub hl [1, 2, 3, 0] rfl))
        ·
          refine lv_aload_n hx hb dX3_those_38 rfl (lv_at hl 2 rfl) ?_
          refine lv_aload_n hx hb dX3_those_39 rfl (lv_at hl 0 rfl) ?_
          refine r_get (C := RX3) (T := TX3) (N := 1) (ci := 3) X in_X3 rfl 0 (Nat.le_of_ble_eq_true rfl) q178 (fun _ h => h) ob0 rfl dX3_those_40 ?_
          refine lv_iload_n hx hb dX3_those_43 rfl (lv_at hl 3 rfl) ?_
          refine Cp.callV (v := .ref (x (L.getD k 0))) (ct_J2_get l g (fun q => P0 q ∧ q ≠ a) (XL x L) L.length al0 k (by omega)) X hL hl vb_J2_get q342 (hls.recv hKV) rfl rfl (Nat.le_of_ble_eq_true rfl) dX3_those_44 ⟨Nat.le_of_ble_eq_true rfl, Nat.le_of_ble_eq_true rfl⟩ (by omega) (by omega) hls (fun locs hL => ?_)
          obtain ⟨u1, v1, hu, hcr1⟩ := hcr.step hK.cap.1 (by have := flt_le L k bl; omega)
          have hcl1 := hcr1.le
          refine Ct.callV (ct_X3_adds l g (fun q => s.heap.size ≤ q) (XL x ((L.take k).filter bl)) (((L.take k).filter bl).length) cap b1 al (x (L.getD k 0)) u1 v1 (by have := flt_le L k bl; omega) sz_b1 (Nat.not_le_of_lt (hel.lt (getD_mem (by omega)))) hu) X hL hl vb_X3_adds q356 (ha_b1.recv hKV rfl) rfl rfl (Nat.le_of_ble_eq_true rfl) dX3_those_47 ⟨Nat.le_of_ble_eq_true rfl, Nat.le_of_ble_eq_true rfl⟩ (by omega) (by omega) ⟨⟨ha_b1, hK, hel.new hE (fun i hi => sub_flt hi), (hel.ext hE) _ (getD_mem (by omega))⟩, fun q hq => Nat.le_trans hE.1 hq⟩ (fun r H locs hL hp => ?_)
          obtain ⟨rfl, ha_b1, hK, hC1⟩ := hp
          have hE := hCe _ ((hE.chg (P := (fun q => s.heap.size ≤ q))).trans hC1)
          have ob0 := ob00.ext hE
          have hls := hls0.ext hE
          have hK := hK.to (XL_app x ((L.take k).filter bl) (L.getD k 0)) (fun _ h => h)
          refine lv_iinc (v := nI (k + 1)) (lv' := [(3, .int _), (0, .ref _), (1, .ref _), (2, .ref _)]) hx hb dX3_those_50 hl (k := 3) rfl (nI_iinc _ 1 rfl) (by decide) rfl (fun ls hl => ?_)
          refine lv_goto (tgt := 10) hx hb dX3_those_53 (by decide) ?_
          have eF := flt_t (L := L) (k := k) (p := bl) (by omega) c_35
          rw [len_app, ← eF] at hK
          exact W.widen (by omega) (by omega) (ih10 (k + 1) _ (u + u1) (v + v1) (by omega) (by omega) hcr1 _ ha_b1 hK hE _ hL ls (lv_sub hl [1, 2, 3, 0] rfl))
  exact W.widen (by omega) (by omega) (L10 (L.length + 1) 0 0 0 0 (by omega) (by omega) (Or.inl ⟨rfl, rfl, rfl⟩) _ ha_b1 hK hE _ hL ls (lv_sub hl [2, 3, 1, 0] rfl))

set_option maxRecDepth 100000 in
set_option maxHeartbeats 4000000 in
theorem ct_X3_counts (l : Launch) (g : GT) (P0 : Nat → Prop) (x : Nat → Nat) (L : List Nat) (a : Nat) (la : Nat) (bl : Nat → Bool) (hLn : L.length ≤ 40) : Ct l g yX3_counts cX3_counts 4 (some .int) 12 0 0 [.ref a, .ref la] (fun H => BagR g P0 (XL x L) L.length a H ∧ ElO g x L H ∧ ∀ i, i ∈ L → ∀ H1, Ext H H1 → LamRun l g xCh la [.ref (x i)] 10 0 0 H1 (PoB (bl i))) (fun r H H1 => r = some (.int (nI (L.filter bl).length)) ∧ Ext H H1) := by
  refine Ct.of (by decide) (Nat.le_of_ble_eq_true rfl) ?_
  intro p e s m args below meth c X hP ls hl
  have hx := X.1
  have hb := X.2.1
  have hKV := X.2.2.2.2.2.2.2.1.1
  have hL : ∀ q ∈ ([] : List Loc), gLo g ≤ q.base := fun _ h => by cases h
  obtain ⟨⟨al0, pa, la0, ob00, hls0⟩, hel, hrun⟩ := hP
  have hl : lv_has ls 4 [(0, .ref a), (1, .ref la)] := hl
  have hC : Chg (fun q => s.heap.size ≤ q) s.heap s.heap := Chg.rfl'
  have hPn : ∀ q, s.heap.size ≤ q → s.heap.size ≤ q := fun _ h => h
  have hE : Ext s.heap s.heap := Ext.rfl'
  have hCe : ∀ H1, Chg (fun q => s.heap.size ≤ q) s.heap H1 → Ext s.heap H1 := fun _ h => h.ext (fun q hq z => absurd z (Nat.not_le_of_lt hq))
  have ob0 := ob00.ext hE
  have hls := hls0.ext hE
  refine lv_iconst (v := nI 0) hx hb dX3_counts_0 (by decide) ?_
  refine lv_istore_n (lv' := [(2, .int _), (0, .ref _), (1, .ref _)]) hx hb dX3_counts_1 rfl hl (by decide) rfl (fun ls hl => ?_)
  refine lv_iconst (v := nI 0) hx hb dX3_counts_2 (by decide) ?_
  refine lv_istore_n (lv' := [(3, .int _), (2, .int _), (0, .ref _), (1, .ref _)]) hx hb dX3_counts_3 rfl hl (by decide) rfl (fun ls hl => ?_)
  have L4 : ∀ (fuel : Nat) (v k : Nat), L.length - k < fuel → (v = ((L.take k).filter bl).length) → (k ≤ L.length) → ∀ (H : Heap), Ext s.heap H → ∀ (locs : List Loc), (∀ q ∈ locs, gLo g ≤ q.base) → ∀ (ls : Array Slot), lv_has ls 4 [(0, .ref a), (1, .ref la), (2, .int (nI v)), (3, .int (nI k))] → W p l e (rmL 12 0 0) s m args below meth c H locs 0 0 (MQ below (Qcg (fun r H H1 => r = some (.int (nI (L.filter bl).length)) ∧ Ext H H1)) args s 0 0 (fre g)) (F0 m 4 ls []) := by
    intro fuel
    induction fuel with
    | zero => intro v k hfu; exact absurd hfu (Nat.not_lt_zero _)
    | succ fuel ih4 =>
      intro v k hfu hv hk H hE locs hL ls hl
      have ob0 := ob00.ext hE
      have hls := hls0.ext hE
      have hvl := flt_le L k bl
      refine lv_iload_n hx hb dX3_counts_4 rfl (lv_at hl 3 rfl) ?_
      refine lv_aload_n hx hb dX3_counts_5 rfl (lv_at hl 0 rfl) ?_
      refine r_get (C := RX3) (T := TX3) (N := 1) (ci := 3) X in_X3 rfl 0 (Nat.le_of_ble_eq_true rfl) q178 (fun _ h => h) ob0 rfl dX3_counts_6 ?_
      refine Cp.callV (v := .int (nI L.length)) (ct_J2_size l g (fun q => P0 q ∧ q ≠ a) (XL x L) L.length al0 ) X hL hl vb_J2_size q338 (hls.recv hKV) rfl rfl (Nat.le_of_ble_eq_true rfl) dX3_counts_9 ⟨Nat.le_of_ble_eq_true rfl, Nat.le_of_ble_eq_true rfl⟩ (by omega) (by omega) hls (fun locs hL => ?_)
      refine n_icmp_ge (tgt := 41) X dX3_counts_12 (by decide) (by omega) (by omega) (fun c_12 => ?_) (fun c_12 => ?_)
      ·
        refine lv_iload_n hx hb dX3_counts_41 rfl (lv_at hl 2 rfl) ?_
        obtain rfl : k = L.length := by omega
        rw [List.take_length] at hv
        exact r_iret X hL rfl rfl dX3_counts_42 (by omega) (by omega) ⟨by rw [hv], hE⟩
      ·
        refine lv_iload_n hx hb dX3_counts_15 rfl (lv_at hl 2 rfl) ?_
        refine lv_aload_n hx hb dX3_counts_16 rfl (lv_at hl 1 rfl) ?_
        refine lv_aload_n hx hb dX3_counts_17 rfl (lv_at hl 0 rfl) ?_
        refine r_get (C := RX3) (T := TX3) (N := 1) (ci := 3) X in_X3 rfl 0 (Nat.le_of_ble_eq_true rfl) q178 (fun _ h => h) ob0 rfl dX3_counts_18 ?_
        refine lv_iload_n hx hb dX3_counts_21 rfl (lv_at hl 3 rfl) ?_
        refine Cp.callV (v := .ref (x (L.getD k 0))) (ct_J2_get l g (fun q => P0 q ∧ q ≠ a) (XL x L) L.length al0 k (by omega)) X hL hl vb_J2_get q342 (hls.recv hKV) rfl rfl (Nat.le_of_ble_eq_true rfl) dX3_counts_22 ⟨Nat.le_of_ble_eq_true rfl, Nat.le_of_ble_eq_true rfl⟩ (by omega) (by omega) hls (fun locs hL => ?_)
        refine r_lam (As := [.ref (x (L.getD k 0))]) (hrun _ (getD_mem (by omega)) _ hE) X hL hl q550 rfl (Nat.le_of_ble_eq_true rfl) dX3_counts_25 (Nat.le_of_ble_eq_true rfl) (by omega) (by omega) (fun r H locs hL hp => ?_)
        obtain ⟨rfl, hE1⟩ := hp
        have hE := hE.trans hE1
        have ob0 := ob00.ext hE
        have hls := hls0.ext hE
        refine Cp.callSN (v := .int (bI (bl (L.getD k 0)))) (ct_X1_flag l g (bl (L.getD k 0)) ) X hL hl sb_X1_flag q1130 rfl rfl (Nat.le_of_ble_eq_true rfl) dX3_counts_30 ⟨Nat.le_of_ble_eq_true rfl, Nat.le_of_ble_eq_true rfl⟩ (by omega) (by omega) trivial (fun locs hL => ?_)
        refine lv_iadd hx hb dX3_counts_33 ?_
        refine W.stk (w := (nI (v + (if bl (L.getD k 0) then 1 else 0)))) (add_bI v _) ?_
        refine lv_istore_n (lv' := [(2, .int _), (0, .ref _), (1, .ref _), (3, .int _)]) hx hb dX3_counts_34 rfl hl (by decide) rfl (fun ls hl => ?_)
        refine lv_iinc (v := nI (k + 1)) (lv' := [(3, .int _), (2, .int _), (0, .ref _), (1, .ref _)]) hx hb dX3_counts_35 hl (k := 3) rfl (nI_iinc _ 1 rfl) (by decide) rfl (fun ls hl => ?_)
        refine lv_goto (tgt := 4) hx hb dX3_counts_38 (by decide) ?_
        exact W.widen (by omega) (by omega) (ih4 _ (k + 1) (by omega) (by rw [cntP_s (by omega), hv]) (by omega) _ hE _ hL ls (lv_sub hl [2, 3, 1, 0] rfl))
  exact W.widen (by omega) (by omega) (L4 (L.length + 1) 0 0 (by omega) rfl (by omega) _ hE _ hL ls (lv_sub hl [2, 3, 1, 0] rfl))
theorem vb_X3_counts : VB yX3_counts cX3_counts 4 (some .int) 1 := ⟨q1127, q1128, q101, q1129, ⟨by decide, by decide, by decide +kernel⟩⟩

set_option maxRecDepth 100000 in
set_option maxHeartbeats 4000000 in
theorem ct_X3_countsb (l : Launch) (g : GT) (P0 : Nat → Prop) (x : Nat → Nat) (L : List Nat) (a : Nat) (la : Nat) (bl : Nat → Bool) (hLn : L.length ≤ 40) : Ct l g yX3_counts cX3_counts 4 (some .int) 18 L.length (3 * L.length) [.ref a, .ref la] (fun H => BagR g P0 (XL x L) L.length a H ∧ ElO g x L H ∧ ∀ i, i ∈ L → ∀ H1, Ext H H1 → LamRun l g xCh la [.ref (x i)] 16 1 3 H1 (PoB (bl i))) (fun r H H1 => r = some (.int (nI (L.filter bl).length)) ∧ Ext H H1) := by
  refine Ct.of (by decide) (Nat.le_of_ble_eq_true rfl) ?_
  intro p e s m args below meth c X hP ls hl
  have hx := X.1
  have hb := X.2.1
  have hKV := X.2.2.2.2.2.2.2.1.1
  have hL : ∀ q ∈ ([] : List Loc), gLo g ≤ q.base := fun _ h => by cases h
  obtain ⟨⟨al0, pa, la0, ob00, hls0⟩, hel, hrun⟩ := hP
  have hl : lv_has ls 4 [(0, .ref a), (1, .ref la)] := hl
  have hC : Chg (fun q => s.heap.size ≤ q) s.heap s.heap := Chg.rfl'
  have hPn : ∀ q, s.heap.size ≤ q → s.heap.size ≤ q := fun _ h => h
  have hE : Ext s.heap s.heap := Ext.rfl'
  have hCe : ∀ H1, Chg (fun q => s.heap.size ≤ q) s.heap H1 → Ext s.heap H1 := fun _ h => h.ext (fun q hq z => absurd z (Nat.not_le_of_lt hq))
  have ob0 := ob00.ext hE
  have hls := hls0.ext hE
  refine lv_iconst (v := nI 0) hx hb dX3_counts_0 (by decide) ?_
  refine lv_istore_n (lv' := [(2, .int _), (0, .ref _), (1, .ref _)]) hx hb dX3_counts_1 rfl hl (by decide) rfl (fun ls hl => ?_)
  refine lv_iconst (v := nI 0) hx hb dX3_counts_2 (by decide) ?_
  refine lv_istore_n (lv' := [(3, .int _), (2, .int _), (0, .ref _), (1, .ref _)]) hx hb dX3_counts_3 rfl hl (by decide) rfl (fun ls hl => ?_)
  have L4 : ∀ (fuel : Nat) (v k : Nat), L.length - k < fuel → (v = ((L.take k).filter bl).length) → (k ≤ L.length) → ∀ (H : Heap), Ext s.heap H → ∀ (locs : List Loc), (∀ q ∈ locs, gLo g ≤ q.base) → ∀ (ls : Array Slot), lv_has ls 4 [(0, .ref a), (1, .ref la), (2, .int (nI v)), (3, .int (nI k))] → W p l e (rmL 18 L.length (3 * L.length)) s m args below meth c H locs k (3 * k) (MQ below (Qcg (fun r H H1 => r = some (.int (nI (L.filter bl).length)) ∧ Ext H H1)) args s L.length (3 * L.length) (fre g)) (F0 m 4 ls []) := by
    intro fuel
    induction fuel with
    | zero => intro v k hfu; exact absurd hfu (Nat.not_lt_zero _)
    | succ fuel ih4 =>
      intro v k hfu hv hk H hE locs hL ls hl
      have ob0 := ob00.ext hE
      have hls := hls0.ext hE
      have hvl := flt_le L k bl
      refine lv_iload_n hx hb dX3_counts_4 rfl (lv_at hl 3 rfl) ?_
      refine lv_aload_n hx hb dX3_counts_5 rfl (lv_at hl 0 rfl) ?_
      refine r_get (C := RX3) (T := TX3) (N := 1) (ci := 3) X in_X3 rfl 0 (Nat.le_of_ble_eq_true rfl) q178 (fun _ h => h) ob0 rfl dX3_counts_6 ?_
      refine Cp.callV (v := .int (nI L.length)) (ct_J2_size l g (fun q => P0 q ∧ q ≠ a) (XL x L) L.length al0 ) X hL hl vb_J2_size q338 (hls.recv hKV) rfl rfl (Nat.le_of_ble_eq_true rfl) dX3_counts_9 ⟨Nat.le_of_ble_eq_true rfl, Nat.le_of_ble_eq_true rfl⟩ (by omega) (by omega) hls (fun locs hL => ?_)
      refine n_icmp_ge (tgt := 41) X dX3_counts_12 (by decide) (by omega) (by omega) (fun c_12 => ?_) (fun c_12 => ?_)
      ·
        refine lv_iload_n hx hb dX3_counts_41 rfl (lv_at hl 2 rfl) ?_
        obtain rfl : k = L.length := by omega
        rw [List.take_length] at hv
        exact r_iret X hL rfl rfl dX3_counts_42 (by omega) (by omega) ⟨by rw [hv], hE⟩
      ·
        refine lv_iload_n hx hb dX3_counts_15 rfl (lv_at hl 2 rfl) ?_
        refine lv_aload_n hx hb dX3_counts_16 rfl (lv_at hl 1 rfl) ?_
        refine lv_aload_n hx hb dX3_counts_17 rfl (lv_at hl 0 rfl) ?_
        refine r_get (C := RX3) (T := TX3) (N := 1) (ci := 3) X in_X3 rfl 0 (Nat.le_of_ble_eq_true rfl) q178 (fun _ h => h) ob0 rfl dX3_counts_18 ?_
        refine lv_iload_n hx hb dX3_counts_21 rfl (lv_at hl 3 rfl) ?_
        refine Cp.callV (v := .ref (x (L.getD k 0))) (ct_J2_get l g (fun q => P0 q ∧ q ≠ a) (XL x L) L.length al0 k (by omega)) X hL hl vb_J2_get q342 (hls.recv hKV) rfl rfl (Nat.le_of_ble_eq_true rfl) dX3_counts_22 ⟨Nat.le_of_ble_eq_true rfl, Nat.le_of_ble_eq_true rfl⟩ (by omega) (by omega) hls (fun locs hL => ?_)
        refine r_lam (As := [.ref (x (L.getD k 0))]) (hrun _ (getD_mem (by omega)) _ hE) X hL hl q550 rfl (Nat.le_of_ble_eq_true rfl) dX3_counts_25 (Nat.le_of_ble_eq_true rfl) (by omega) (by omega) (fun r H locs hL hp => ?_)
        obtain ⟨rfl, hE1⟩ := hp
        have hE := hE.trans hE1
        have ob0 := ob00.ext hE
        have hls := hls0.ext hE
        refine Cp.callSN (v := .int (bI (bl (L.getD k 0)))) (ct_X1_flag l g (bl (L.getD k 0)) ) X hL hl sb_X1_flag q1130 rfl rfl (Nat.le_of_ble_eq_true rfl) dX3_counts_30 ⟨Nat.le_of_ble_eq_true rfl, Nat.le_of_ble_eq_true rfl⟩ (by omega) (by omega) trivial (fun locs hL => ?_)
        refine lv_iadd hx hb dX3_counts_33 ?_
        refine W.stk (w := (nI (v + (if bl (L.getD k 0) then 1 else 0)))) (add_bI v _) ?_
        refine lv_istore_n (lv' := [(2, .int _), (0, .ref _), (1, .ref _), (3, .int _)]) hx hb dX3_counts_34 rfl hl (by decide) rfl (fun ls hl => ?_)
        refine lv_iinc (v := nI (k + 1)) (lv' := [(3, .int _), (2, .int _), (0, .ref _), (1, .ref _)]) hx hb dX3_counts_35 hl (k := 3) rfl (nI_iinc _ 1 rfl) (by decide) rfl (fun ls hl => ?_)
        refine lv_goto (tgt := 4) hx hb dX3_counts_38 (by decide) ?_
        exact W.widen (by omega) (by omega) (ih4 _ (k + 1) (by omega) (by rw [cntP_s (by omega), hv]) (by omega) _ hE _ hL ls (lv_sub hl [2, 3, 1, 0] rfl))
  exact W.widen (by omega) (by omega) (L4 (L.length + 1) 0 0 (by omega) rfl (by omega) _ hE _ hL ls (lv_sub hl [2, 3, 1, 0] rfl))

set_option maxRecDepth 100000 in
set_option maxHeartbeats 4000000 in
theorem ct_X3_hasOne (l : Launch) (g : GT) (P0 : Nat → Prop) (x : Nat → Nat) (L : List Nat) (a : Nat) (la : Nat) (bl : Nat → Bool) (hLn : L.length ≤ 40) : Ct l g yX3_hasOne cX3_hasOne 4 (some .boolean) 12 0 0 [.ref a, .ref la] (fun H => BagR g P0 (XL x L) L.length a H ∧ ElO g x L H ∧ ∀ i, i ∈ L → ∀ H1, Ext H H1 → LamRun l g xCh la [.ref (x i)] 10 0 0 H1 (PoB (bl i))) (fun r H H1 => r = some (.int (bI (L.any bl))) ∧ Ext H H1) := by
  refine Ct.of (by decide) (Nat.le_of_ble_eq_true rfl) ?_
  intro p e s m args below meth c X hP ls hl
  have hx := X.1
  have hb := X.2.1
  have hKV := X.2.2.2.2.2.2.2.1.1
  have hL : ∀ q ∈ ([] : List Loc), gLo g ≤ q.base := fun _ h => by cases h
  obtain ⟨⟨al0, pa, la0, ob00, hls0⟩, hel, hrun⟩ := hP
  have hl : lv_has ls 4 [(0, .ref a), (1, .ref la)] := hl
  have hC : Chg (fun q => s.heap.size ≤ q) s.heap s.heap := Chg.rfl'
  have hPn : ∀ q, s.heap.size ≤ q → s.heap.size ≤ q := fun _ h => h
  have hE : Ext s.heap s.heap := Ext.rfl'
  have hCe : ∀ H1, Chg (fun q => s.heap.size ≤ q) s.heap H1 → Ext s.heap H1 := fun _ h => h.ext (fun q hq z => absurd z (Nat.not_le_of_lt hq))
  have ob0 := ob00.ext hE
  have hls := hls0.ext hE
  refine lv_iconst (v := nI 0) hx hb dX3_hasOne_0 (by decide) ?_
  refine lv_istore_n (lv' := [(2, .int _), (0, .ref _), (1, .ref _)]) hx hb dX3_hasOne_1 rfl hl (by decide) rfl (fun ls hl => ?_)
  refine lv_iconst (v := nI 0) hx hb dX3_hasOne_2 (by decide) ?_
  refine lv_istore_n (lv' := [(3, .int _), (2, .int _), (0, .ref _), (1, .ref _)]) hx hb dX3_hasOne_3 rfl hl (by decide) rfl (fun ls hl => ?_)
  have L4 : ∀ (fuel : Nat) (k : Nat), L.length - k < fuel → (k ≤ L.length) → ∀ (H : Heap), Ext s.heap H → ∀ (locs : List Loc), (∀ q ∈ locs, gLo g ≤ q.base) → ∀ (ls : Array Slot), lv_has ls 4 [(0, .ref a), (1, .ref la), (2, .int (bI ((L.take k).any bl))), (3, .int (nI k))] → W p l e (rmL 12 0 0) s m args below meth c H locs 0 0 (MQ below (Qcg (fun r H H1 => r = some (.int (bI (L.any bl))) ∧ Ext H H1)) args s 0 0 (fre g)) (F0 m 4 ls []) := by
    intro fuel
    induction fuel with
    | zero => intro k hfu; exact absurd hfu (Nat.not_lt_zero _)
    | succ fuel ih4 =>
      intro k hfu hk H hE locs hL ls hl
      have ob0 := ob00.ext hE
      have hls := hls0.ext hE
      refine lv_iload_n hx hb dX3_hasOne_4 rfl (lv_at hl 3 rfl) ?_
      refine lv_aload_n hx hb dX3_hasOne_5 rfl (lv_at hl 0 rfl) ?_
      refine r_get (C := RX3) (T := TX3) (N := 1) (ci := 3) X in_X3 rfl 0 (Nat.le_of_ble_eq_true rfl) q178 (fun _ h => h) ob0 rfl dX3_hasOne_6 ?_
      refine Cp.callV (v := .int (nI L.length)) (ct_J2_size l g (fun q => P0 q ∧ q ≠ a) (XL x L) L.length al0 ) X hL hl vb_J2_size q338 (hls.recv hKV) rfl rfl (Nat.le_of_ble_eq_true rfl) dX3_hasOne_9 ⟨Nat.le_of_ble_eq_true rfl, Nat.le_of_ble_eq_true rfl⟩ (by omega) (by omega) hls (fun locs hL => ?_)
      refine n_icmp_ge (tgt := 40) X dX3_hasOne_12 (by decide) (by omega) (by omega) (fun c_12 => ?_) (fun c_12 => ?_)
      ·
        refine lv_iload_n hx hb dX3_hasOne_40 rfl (lv_at hl 2 rfl) ?_
        exact r_iret X hL rfl (narrow_bI _) dX3_hasOne_41 (by omega) (by omega) ⟨by obtain rfl : k = L.length := (by omega); rw [List.take_length], hE⟩
      ·
        refine lv_iload_n hx hb dX3_hasOne_15 rfl (lv_at hl 2 rfl) ?_
        refine b_ifne (tgt := 40) X dX3_hasOne_16 (by decide) (fun c_16 => ?_) (fun c_16 => ?_)
        ·
          refine lv_iload_n hx hb dX3_hasOne_40 rfl (lv_at hl 2 rfl) ?_
          exact r_iret X hL rfl (narrow_bI _) dX3_hasOne_41 (by omega) (by omega) ⟨by rw [c_16, anyP_t c_16], hE⟩
        ·
          refine lv_aload_n hx hb dX3_hasOne_19 rfl (lv_at hl 1 rfl) ?_
          refine lv_aload_n hx hb dX3_hasOne_20 rfl (lv_at hl 0 rfl) ?_
          refine r_get (C := RX3) (T := TX3) (N := 1) (ci := 3) X in_X3 rfl 0 (Nat.le_of_ble_eq_true rfl) q178 (fun _ h => h) ob0 rfl dX3_hasOne_21 ?_
          refine lv_iload_n hx hb dX3_hasOne_24 rfl (lv_at hl 3 rfl) ?_
          refine Cp.callV (v := .ref (x (L.getD k 0))) (ct_J2_get l g (fun q => P0 q ∧ q ≠ a) (XL x L) L.length al0 k (by omega)) X hL hl vb_J2_get q342 (hls.recv hKV) rfl rfl (Nat.le_of_ble_eq_true rfl) dX3_hasOne_25 ⟨Nat.le_of_ble_eq_true rfl, Nat.le_of_ble_eq_true rfl⟩ (by omega) (by omega) hls (fun locs hL => ?_)
          refine r_lam (As := [.ref (x (L.getD k 0))]) (hrun _ (getD_mem (by omega)) _ hE) X hL hl q550 rfl (Nat.le_of_ble_eq_true rfl) dX3_hasOne_28 (Nat.le_of_ble_eq_true rfl) (by omega) (by omega) (fun r H locs hL hp => ?_)
          obtain ⟨rfl, hE1⟩ := hp
          have hE := hE.trans hE1
          have ob0 := ob00.ext hE
          have hls := hls0.ext hE
          refine W.stk (w := (bI ((L.take (k + 1)).any bl))) (by rw [anyP_s (by omega), c_16, Bool.false_or]) ?_
          refine lv_istore_n (lv' := [(2, .int _), (0, .ref _), (1, .ref _), (3, .int _)]) hx hb dX3_hasOne_33 rfl hl (by decide) rfl (fun ls hl => ?_)
          refine lv_iinc (v := nI (k + 1)) (lv' := [(3, .int _), (2, .int _), (0, .ref _), (1, .ref _)]) hx hb dX3_hasOne_34 hl (k := 3) rfl (nI_iinc _ 1 rfl) (by decide) rfl (fun ls hl => ?_)
          refine lv_goto (tgt := 4) hx hb dX3_hasOne_37 (by decide) ?_
          exact W.widen (by omega) (by omega) (ih4 (k + 1) (by omega) (by omega) _ hE _ hL ls (lv_sub hl [2, 3, 1, 0] rfl))
  exact W.widen (by omega) (by omega) (L4 (L.length + 1) 0 (by omega) (by omega) _ hE _ hL ls (lv_sub hl [2, 3, 1, 0] rfl))
theorem vb_X3_hasOne : VB yX3_hasOne cX3_hasOne 4 (some .boolean) 1 := ⟨q601, q602, q101, q603, ⟨by decide, by decide, by decide +kernel⟩⟩
