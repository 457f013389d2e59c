/-! the law's own small methods -/
theorem SkR.recv {g : GT} {F : Nat → Prop} {S : MS} {n st ln o : Nat} {hf hs : Bool} {H : Heap} {s : State} (h : SkR g F S n st ln hf hs o H) (hKV : KV g s) : ∃ cellB : Cell, H[o]? = some cellB ∧ cellB.vm.isStatics = false ∧ s.vm.findClass "OfferSky" = some cellB.cls := by
  obtain ⟨sta, dq, sl, bf, x, hh, PB, PD, xs, fs, ob, -⟩ := h.v
  exact ob.recv hKV rfl
set_option maxRecDepth 100000 in
set_option maxHeartbeats 4000000 in
theorem ct_X0_add (l : Launch) (g : GT) (F : Nat → Prop) (S : MS) (n st ln : Nat) (hf hs : Bool) (o : Nat) (a b q t : Int32) (u : Nat) (hl0 : l.stackTraces = false) (hFu : F u) (hFl : ∀ q, F q → gLo g ≤ q) : Cw l g yX0_add cX0_add 7 (some .int) [(0, 14, 17, 13), (0, 14, 21, 15)] 16 36 390 [.ref o, .int a, .int b, .int q, .int t, .ref u] (fun H => SkR g F S n st ln hf hs o H ∧ ∃ f, Al g u 1 f H) (WP g F o u (s_add S n st a b q t)) := by
  refine Cw.of (by decide) (Nat.le_of_ble_eq_true rfl) ?_
  intro p e s m args below meth c X hT hP ls hl
  have hx := X.1
  have hb := X.2.1
  have hKV := X.2.2.2.2.2.2.2.1.1
  have hNC : NC s := hKV.2.2.2.2.2.2.2.2.2.2.2.2.2.2
  have hL : ∀ q ∈ ([] : List Loc), gLo g ≤ q.base := fun _ h => by cases h
  obtain ⟨hsk, f, hu⟩ := hP
  have hl : lv_has ls 7 [(0, .ref o), (1, .int a), (2, .int b), (3, .int q), (4, .int t), (5, .ref u)] := hl
  refine lv_aload hx hb dX0_add_0 (lv_at hl 5 rfl) ?_
  refine lv_iconst (v := nI 0) hx hb dX0_add_2 (by decide) ?_
  refine lv_aload_n hx hb dX0_add_3 rfl (lv_at hl 0 rfl) ?_
  refine lv_iload_n hx hb dX0_add_4 rfl (lv_at hl 1 rfl) ?_
  refine lv_iload_n hx hb dX0_add_5 rfl (lv_at hl 2 rfl) ?_
  refine lv_iload_n hx hb dX0_add_6 rfl (lv_at hl 3 rfl) ?_
  refine lv_iload hx hb dX0_add_7 (lv_at hl 4 rfl) ?_
  refine Ce.runV (ct_X1_add l g F S n st ln hf hs o a b q t hl0) X hL hl vb_X1_add q1312 (hsk.recv hKV) rfl rfl (Nat.le_of_ble_eq_true rfl) dX0_add_9 ⟨Nat.le_of_ble_eq_true rfl, Nat.le_of_ble_eq_true rfl⟩ (by omega) (by omega) hsk (fun E ce q0 H locs hL hpx hce hcv hcl => ?_) (fun r H locs hL hp => ?_)
  · obtain ⟨hE, hX, hC⟩ := hpx
    have hu := hu.chg hC (fun y => y hFu)
    rcases hE with ⟨rfl, hk⟩ | ⟨rfl, hk⟩
    ·
      refine r_catch1 X hT rfl (by decide) q1310 q804 hce hcv hcl ?_
      refine lv_astore (lv' := [(6, .ref _), (0, .ref _), (1, .int _), (2, .int _), (3, .int _), (4, .int _), (5, .ref _)]) hx hb dX0_add_17 hl (by decide) rfl (fun ls hl => ?_)
      refine lv_iconst (v := nI 1) hx hb dX0_add_19 (by decide) ?_
      exact vx_ret (r_iret X hL rfl rfl dX0_add_20 (by omega) (by omega) (WP.cx hk (by decide) hX hC hu))
    ·
      refine r_catch2 X hT rfl (by decide) (by decide) q1311 q1310 hNC.1 q454 hce hcv hcl ?_
      refine lv_astore (lv' := [(6, .ref _), (0, .ref _), (1, .int _), (2, .int _), (3, .int _), (4, .int _), (5, .ref _)]) hx hb dX0_add_21 hl (by decide) rfl (fun ls hl => ?_)
      refine lv_iconst (v := nI 2) hx hb dX0_add_23 (by decide) ?_
      exact vx_ret (r_iret X hL rfl rfl dX0_add_24 (by omega) (by omega) (WP.cx hk (by decide) hX hC hu))
  · obtain ⟨h0, hr, hX, hC⟩ := hp
    have hu := hu.chg hC (fun y => y hFu)
    obtain ⟨v0, hv⟩ : ∃ v9, ((s_add S n st a b q t)).2.1 = some (.int v9) := by unfold s_add; (repeat' split) <;> exact ⟨_, rfl⟩
    rw [hv] at hr
    subst hr
    refine lv_i2l hx hb dX0_add_12 rfl ?_
    refine r_lst X hL hu (hFl _ hFu) 0 rfl (by decide) (by decide) dX0_add_13 (fun H locs hL h1 h2 => ?_)
    refine lv_goto (tgt := 25) hx hb dX0_add_14 (by decide) ?_
    refine lv_iconst (v := nI 0) hx hb dX0_add_25 (by decide) ?_
    exact vx_ret (r_iret X hL rfl rfl dX0_add_26 (by omega) (by omega) (WP.c0 h0 hv rfl hX hC h1 h2 hFu hKV.gE hFl))
theorem sw_X0_add : SBW yX0_add cX0_add 7 (some .int) [(0, 14, 17, 13), (0, 14, 21, 15)] 6 := ⟨q1308, q98, q1309, ⟨by decide, by decide, by decide +kernel⟩⟩

set_option maxRecDepth 100000 in
set_option maxHeartbeats 4000000 in
theorem ct_X0_remove (l : Launch) (g : GT) (F : Nat → Prop) (S : MS) (n st ln : Nat) (hf hs : Bool) (o : Nat) (i : Int32) (u : Nat) (hl0 : l.stackTraces = false) (hFu : F u) (hFl : ∀ q, F q → gLo g ≤ q) : Cw l g yX0_remove cX0_remove 4 (some .int) [(0, 9, 12, 21)] 16 32 270 [.ref o, .int i, .ref u] (fun H => SkR g F S n st ln hf hs o H ∧ ∃ f, Al g u 1 f H) (WP g F o u (s_remove S n st i)) := by
  refine Cw.of (by decide) (Nat.le_of_ble_eq_true rfl) ?_
  intro p e s m args below meth c X hT hP ls hl
  have hx := X.1
  have hb := X.2.1
  have hKV := X.2.2.2.2.2.2.2.1.1
  have hNC : NC s := hKV.2.2.2.2.2.2.2.2.2.2.2.2.2.2
  have hL : ∀ q ∈ ([] : List Loc), gLo g ≤ q.base := fun _ h => by cases h
  obtain ⟨hsk, f, hu⟩ := hP
  have hn2 : ¬ ((s_remove S n st i)).1 = 2 := by unfold s_remove; (try dsimp only); (repeat' split) <;> first | exact fun h => absurd (show (1 : Nat) = 2 from h) (by decide) | exact fun h => absurd (show (0 : Nat) = 2 from h) (by decide)
  have hl : lv_has ls 4 [(0, .ref o), (1, .int i), (2, .ref u)] := hl
  refine lv_aload_n hx hb dX0_remove_0 rfl (lv_at hl 2 rfl) ?_
  refine lv_iconst (v := nI 0) hx hb dX0_remove_1 (by decide) ?_
  refine lv_aload_n hx hb dX0_remove_2 rfl (lv_at hl 0 rfl) ?_
  refine lv_iload_n hx hb dX0_remove_3 rfl (lv_at hl 1 rfl) ?_
  refine Ce.runV (ct_X1_remove l g F S n st ln hf hs o i hl0) X hL hl vb_X1_remove q1371 (hsk.recv hKV) rfl rfl (Nat.le_of_ble_eq_true rfl) dX0_remove_4 ⟨Nat.le_of_ble_eq_true rfl, Nat.le_of_ble_eq_true rfl⟩ (by omega) (by omega) hsk (fun E ce q0 H locs hL hpx hce hcv hcl => ?_) (fun r H locs hL hp => ?_)
  · obtain ⟨hE, hX, hC⟩ := hpx
    have hu := hu.chg hC (fun y => y hFu)
    rcases hE with ⟨rfl, hk⟩ | ⟨rfl, hk⟩
    ·
      refine r_catch1 X hT rfl (by decide) q1368 q1043 hce hcv hcl ?_
      refine lv_astore_n (lv' := [(3, .ref _), (0, .ref _), (1, .int _), (2, .ref _)]) hx hb dX0_remove_12 rfl hl (by decide) rfl (fun ls hl => ?_)
      refine lv_iconst (v := nI 1) hx hb dX0_remove_13 (by decide) ?_
      exact vx_ret (r_iret X hL rfl rfl dX0_remove_14 (by omega) (by omega) (WP.cx hk (by decide) hX hC hu))
    ·
      exact absurd hk hn2
  · obtain ⟨h0, hr, hX, hC⟩ := hp
    have hu := hu.chg hC (fun y => y hFu)
    obtain ⟨v0, hv⟩ : ∃ v9, ((s_remove S n st i)).2.1 = some (.int v9) := by unfold s_remove; (repeat' split) <;> exact ⟨_, rfl⟩
    rw [hv] at hr
    subst hr
    refine lv_i2l hx hb dX0_remove_7 rfl ?_
    refine r_lst X hL hu (hFl _ hFu) 0 rfl (by decide) (by decide) dX0_remove_8 (fun H locs hL h1 h2 => ?_)
    refine lv_goto (tgt := 15) hx hb dX0_remove_9 (by decide) ?_
    refine lv_iconst (v := nI 0) hx hb dX0_remove_15 (by decide) ?_
    exact vx_ret (r_iret X hL rfl rfl dX0_remove_16 (by omega) (by omega) (WP.c0 h0 hv rfl hX hC h1 h2 hFu hKV.gE hFl))
theorem sw_X0_remove : SBW yX0_remove cX0_remove 4 (some .int) [(0, 9, 12, 21)] 3 := ⟨q1366, q98, q1367, ⟨by decide, by decide, by decide +kernel⟩⟩

set_option maxRecDepth 100000 in
set_option maxHeartbeats 4000000 in
theorem ct_X0_change (l : Launch) (g : GT) (F : Nat → Prop) (S : MS) (n st ln : Nat) (hf hs : Bool) (o : Nat) (i q v : Int32) (u : Nat) (hl0 : l.stackTraces = false) (hFu : F u) (hFl : ∀ q, F q → gLo g ≤ q) : Cw l g yX0_change cX0_change 6 (some .int) [(0, 12, 15, 21), (0, 12, 19, 13)] 16 35 280 [.ref o, .int i, .int q, .int v, .ref u] (fun H => SkR g F S n st ln hf hs o H ∧ ∃ f, Al g u 1 f H) (WP g F o u (s_change S n st i q v)) := by
  refine Cw.of (by decide) (Nat.le_of_ble_eq_true rfl) ?_
  intro p e s m args below meth c X hT hP ls hl
  have hx := X.1
  have hb := X.2.1
  have hKV := X.2.2.2.2.2.2.2.1.1
  have hNC : NC s := hKV.2.2.2.2.2.2.2.2.2.2.2.2.2.2
  have hL : ∀ q ∈ ([] : List Loc), gLo g ≤ q.base := fun _ h => by cases h
  obtain ⟨hsk, f, hu⟩ := hP
  have hl : lv_has ls 6 [(0, .ref o), (1, .int i), (2, .int q), (3, .int v), (4, .ref u)] := hl
  refine lv_aload hx hb dX0_change_0 (lv_at hl 4 rfl) ?_
  refine lv_iconst (v := nI 0) hx hb dX0_change_2 (by decide) ?_
  refine lv_aload_n hx hb dX0_change_3 rfl (lv_at hl 0 rfl) ?_
  refine lv_iload_n hx hb dX0_change_4 rfl (lv_at hl 1 rfl) ?_
  refine lv_iload_n hx hb dX0_change_5 rfl (lv_at hl 2 rfl) ?_
  refine lv_iload_n hx hb dX0_change_6 rfl (lv_at hl 3 rfl) ?_
  refine Ce.runV (ct_X1_change l g F S n st ln hf hs o i q v hl0) X hL hl vb_X1_change q1399 (hsk.recv hKV) rfl rfl (Nat.le_of_ble_eq_true rfl) dX0_change_7 ⟨Nat.le_of_ble_eq_true rfl, Nat.le_of_ble_eq_true rfl⟩ (by omega) (by omega) hsk (fun E ce q0 H locs hL hpx hce hcv hcl => ?_) (fun r H locs hL hp => ?_)
  · obtain ⟨hE, hX, hC⟩ := hpx
    have hu := hu.chg hC (fun y => y hFu)
    rcases hE with ⟨rfl, hk⟩ | ⟨rfl, hk⟩
    ·
      refine r_catch1 X hT rfl (by decide) q1368 q1043 hce hcv hcl ?_
      refine lv_astore (lv' := [(5, .ref _), (0, .ref _), (1, .int _), (2, .int _), (3, .int _), (4, .ref _)]) hx hb dX0_change_15 hl (by decide) rfl (fun ls hl => ?_)
      refine lv_iconst (v := nI 1) hx hb dX0_change_17 (by decide) ?_
      exact vx_ret (r_iret X hL rfl rfl dX0_change_18 (by omega) (by omega) (WP.cx hk (by decide) hX hC hu))
    ·
      refine r_catch2 X hT rfl (by decide) (by decide) q1310 q1368 hNC.2.1 q804 hce hcv hcl ?_
      refine lv_astore (lv' := [(5, .ref _), (0, .ref _), (1, .int _), (2, .int _), (3, .int _), (4, .ref _)]) hx hb dX0_change_19 hl (by decide) rfl (fun ls hl => ?_)
      refine lv_iconst (v := nI 2) hx hb dX0_change_21 (by decide) ?_
      exact vx_ret (r_iret X hL rfl rfl dX0_change_22 (by omega) (by omega) (WP.cx hk (by decide) hX hC hu))
  · obtain ⟨h0, hr, hX, hC⟩ := hp
    have hu := hu.chg hC (fun y => y hFu)
    obtain ⟨v0, hv⟩ : ∃ v9, ((s_change S n st i q v)).2.1 = some (.int v9) := by unfold s_change; (repeat' split) <;> exact ⟨_, rfl⟩
    rw [hv] at hr
    subst hr
    refine lv_i2l hx hb dX0_change_10 rfl ?_
    refine r_lst X hL hu (hFl _ hFu) 0 rfl (by decide) (by decide) dX0_change_11 (fun H locs hL h1 h2 => ?_)
    refine lv_goto (tgt := 23) hx hb dX0_change_12 (by decide) ?_
    refine lv_iconst (v := nI 0) hx hb dX0_change_23 (by decide) ?_
    exact vx_ret (r_iret X hL rfl rfl dX0_change_24 (by omega) (by omega) (WP.c0 h0 hv rfl hX hC h1 h2 hFu hKV.gE hFl))
theorem sw_X0_change : SBW yX0_change cX0_change 6 (some .int) [(0, 12, 15, 21), (0, 12, 19, 13)] 5 := ⟨q1397, q98, q1398, ⟨by decide, by decide, by decide +kernel⟩⟩

set_option maxRecDepth 100000 in
set_option maxHeartbeats 4000000 in
theorem ct_X0_setWish (l : Launch) (g : GT) (F : Nat → Prop) (S : MS) (n st ln : Nat) (hf hs : Bool) (o : Nat) (q v : Int32) (u : Nat) (hl0 : l.stackTraces = false) (hFu : F u) (hFl : ∀ q, F q → gLo g ≤ q) : Cw l g yX0_setWish cX0_setWish 5 (some .int) [(0, 10, 13, 21), (0, 10, 17, 13)] 16 33 275 [.ref o, .int q, .int v, .ref u] (fun H => SkR g F S n st ln hf hs o H ∧ ∃ f, Al g u 1 f H) (WP g F o u (s_set 161 (!inB v (nI 0) (nI 2)) S st q v)) := by
  refine Cw.of (by decide) (Nat.le_of_ble_eq_true rfl) ?_
  intro p e s m args below meth c X hT hP ls hl
  have hx := X.1
  have hb := X.2.1
  have hKV := X.2.2.2.2.2.2.2.1.1
  have hNC : NC s := hKV.2.2.2.2.2.2.2.2.2.2.2.2.2.2
  have hL : ∀ q ∈ ([] : List Loc), gLo g ≤ q.base := fun _ h => by cases h
  obtain ⟨hsk, f, hu⟩ := hP
  have hl : lv_has ls 5 [(0, .ref o), (1, .int q), (2, .int v), (3, .ref u)] := hl
  refine lv_aload_n hx hb dX0_setWish_0 rfl (lv_at hl 3 rfl) ?_
  refine lv_iconst (v := nI 0) hx hb dX0_setWish_1 (by decide) ?_
  refine lv_aload_n hx hb dX0_setWish_2 rfl (lv_at hl 0 rfl) ?_
  refine lv_iload_n hx hb dX0_setWish_3 rfl (lv_at hl 1 rfl) ?_
  refine lv_iload_n hx hb dX0_setWish_4 rfl (lv_at hl 2 rfl) ?_
  refine Ce.runV (ct_X1_setWish l g F S n st ln hf hs o q v hl0) X hL hl vb_X1_setWish q1429 (hsk.recv hKV) rfl rfl (Nat.le_of_ble_eq_true rfl) dX0_setWish_5 ⟨Nat.le_of_ble_eq_true rfl, Nat.le_of_ble_eq_true rfl⟩ (by omega) (by omega) hsk (fun E ce q0 H locs hL hpx hce hcv hcl => ?_) (fun r H locs hL hp => ?_)
  · obtain ⟨hE, hX, hC⟩ := hpx
    have hu := hu.chg hC (fun y => y hFu)
    rcases hE with ⟨rfl, hk⟩ | ⟨rfl, hk⟩
    ·
      refine r_catch1 X hT rfl (by decide) q1368 q1043 hce hcv hcl ?_
      refine lv_astore (lv' := [(4, .ref _), (0, .ref _), (1, .int _), (2, .int _), (3, .ref _)]) hx hb dX0_setWish_13 hl (by decide) rfl (fun ls hl => ?_)
      refine lv_iconst (v := nI 1) hx hb dX0_setWish_15 (by decide) ?_
      exact vx_ret (r_iret X hL rfl rfl dX0_setWish_16 (by omega) (by omega) (WP.cx hk (by decide) hX hC hu))
    ·
      refine r_catch2 X hT rfl (by decide) (by decide) q1310 q1368 hNC.2.1 q804 hce hcv hcl ?_
      refine lv_astore (lv' := [(4, .ref _), (0, .ref _), (1, .int _), (2, .int _), (3, .ref _)]) hx hb dX0_setWish_17 hl (by decide) rfl (fun ls hl => ?_)
      refine lv_iconst (v := nI 2) hx hb dX0_setWish_19 (by decide) ?_
      exact vx_ret (r_iret X hL rfl rfl dX0_setWish_20 (by omega) (by omega) (WP.cx hk (by decide) hX hC hu))
  · obtain ⟨h0, hr, hX, hC⟩ := hp
    have hu := hu.chg hC (fun y => y hFu)
    obtain ⟨v0, hv⟩ : ∃ v9, ((s_set 161 (!inB v (nI 0) (nI 2)) S st q v)).2.1 = some (.int v9) := by unfold s_set; (repeat' split) <;> exact ⟨_, rfl⟩
    rw [hv] at hr
    subst hr
    refine lv_i2l hx hb dX0_setWish_8 rfl ?_
    refine r_lst X hL hu (hFl _ hFu) 0 rfl (by decide) (by decide) dX0_setWish_9 (fun H locs hL h1 h2 => ?_)
    refine lv_goto (tgt := 21) hx hb dX0_setWish_10 (by decide) ?_
    refine lv_iconst (v := nI 0) hx hb dX0_setWish_21 (by decide) ?_
    exact vx_ret (r_iret X hL rfl rfl dX0_setWish_22 (by omega) (by omega) (WP.c0 h0 hv rfl hX hC h1 h2 hFu hKV.gE hFl))
theorem sw_X0_setWish : SBW yX0_setWish cX0_setWish 5 (some .int) [(0, 10, 13, 21), (0, 10, 17, 13)] 4 := ⟨q1427, q98, q1428, ⟨by decide, by decide, by decide +kernel⟩⟩

set_option maxRecDepth 100000 in
set_option maxHeartbeats 4000000 in
theorem ct_X0_setBounds (l : Launch) (g : GT) (F : Nat → Prop) (S : MS) (n st ln : Nat) (hf hs : Bool) (o : Nat) (q a b : Int32) (u : Nat) (hl0 : l.stackTraces = false) (hFu : F u) (hFl : ∀ q, F q → gLo g ≤ q) : Cw l g yX0_setBounds cX0_setBounds 6 (some .int) [(0, 12, 15, 21), (0, 12, 19, 13)] 16 42 415 [.ref o, .int q, .int a, .int b, .ref u] (fun H => SkR g F S n st ln hf hs o H ∧ ∃ f, Al g u 1 f H) (WP g F o u (s_bounds S n st q a b)) := by
  refine Cw.of (by decide) (Nat.le_of_ble_eq_true rfl) ?_
  intro p e s m args below meth c X hT hP ls hl
  have hx := X.1
  have hb := X.2.1
  have hKV := X.2.2.2.2.2.2.2.1.1
  have hNC : NC s := hKV.2.2.2.2.2.2.2.2.2.2.2.2.2.2
  have hL : ∀ q ∈ ([] : List Loc), gLo g ≤ q.base := fun _ h => by cases h
  obtain ⟨hsk, f, hu⟩ := hP
  have hl : lv_has ls 6 [(0, .ref o), (1, .int q), (2, .int a), (3, .int b), (4, .ref u)] := hl
  refine lv_aload hx hb dX0_setBounds_0 (lv_at hl 4 rfl) ?_
  refine lv_iconst (v := nI 0) hx hb dX0_setBounds_2 (by decide) ?_
  refine lv_aload_n hx hb dX0_setBounds_3 rfl (lv_at hl 0 rfl) ?_
  refine lv_iload_n hx hb dX0_setBounds_4 rfl (lv_at hl 1 rfl) ?_
  refine lv_iload_n hx hb dX0_setBounds_5 rfl (lv_at hl 2 rfl) ?_
  refine lv_iload_n hx hb dX0_setBounds_6 rfl (lv_at hl 3 rfl) ?_
  refine Ce.runV (ct_X1_setBounds l g F S n st ln hf hs o q a b hl0) X hL hl vb_X1_setBounds q1440 (hsk.recv hKV) rfl rfl (Nat.le_of_ble_eq_true rfl) dX0_setBounds_7 ⟨Nat.le_of_ble_eq_true rfl, Nat.le_of_ble_eq_true rfl⟩ (by omega) (by omega) hsk (fun E ce q0 H locs hL hpx hce hcv hcl => ?_) (fun r H locs hL hp => ?_)
  · obtain ⟨hE, hX, hC⟩ := hpx
    have hu := hu.chg hC (fun y => y hFu)
    rcases hE with ⟨rfl, hk⟩ | ⟨rfl, hk⟩
    ·
      refine r_catch1 X hT rfl (by decide) q1368 q1043 hce hcv hcl ?_
      refine lv_astore (lv' := [(5, .ref _), (0, .ref _), (1, .int _), (2, .int _), (3, .int _), (4, .ref _)]) hx hb dX0_setBounds_15 hl (by decide) rfl (fun ls hl => ?_)
      refine lv_iconst (v := nI 1) hx hb dX0_setBounds_17 (by decide) ?_
      exact vx_ret (r_iret X hL rfl rfl dX0_setBounds_18 (by omega) (by omega) (WP.cx hk (by decide) hX hC hu))
    ·
      refine r_catch2 X hT rfl (by decide) (by decide) q1310 q1368 hNC.2.1 q804 hce hcv hcl ?_
      refine lv_astore (lv' := [(5, .ref _), (0, .ref _), (1, .int _), (2, .int _), (3, .int _), (4, .ref _)]) hx hb dX0_setBounds_19 hl (by decide) rfl (fun ls hl => ?_)
      refine lv_iconst (v := nI 2) hx hb dX0_setBounds_21 (by decide) ?_
      exact vx_ret (r_iret X hL rfl rfl dX0_setBounds_22 (by omega) (by omega) (WP.cx hk (by decide) hX hC hu))
  · obtain ⟨h0, hr, hX, hC⟩ := hp
    have hu := hu.chg hC (fun y => y hFu)
    obtain ⟨v0, hv⟩ : ∃ v9, ((s_bounds S n st q a b)).2.1 = some (.int v9) := by unfold s_bounds; (repeat' split) <;> exact ⟨_, rfl⟩
    rw [hv] at hr
    subst hr
    refine lv_i2l hx hb dX0_setBounds_10 rfl ?_
    refine r_lst X hL hu (hFl _ hFu) 0 rfl (by decide) (by decide) dX0_setBounds_11 (fun H locs hL h1 h2 => ?_)
    refine lv_goto (tgt := 23) hx hb dX0_setBounds_12 (by decide) ?_
    refine lv_iconst (v := nI 0) hx hb dX0_setBounds_23 (by decide) ?_
    exact vx_ret (r_iret X hL rfl rfl dX0_setBounds_24 (by omega) (by omega) (WP.c0 h0 hv rfl hX hC h1 h2 hFu hKV.gE hFl))
theorem sw_X0_setBounds : SBW yX0_setBounds cX0_setBounds 6 (some .int) [(0, 12, 15, 21), (0, 12, 19, 13)] 5 := ⟨q1438, q98, q1439, ⟨by decide, by decide, by decide +kernel⟩⟩

set_option maxRecDepth 100000 in
set_option maxHeartbeats 4000000 in
theorem ct_X0_setWeight (l : Launch) (g : GT) (F : Nat → Prop) (S : MS) (n st ln : Nat) (hf hs : Bool) (o : Nat) (q v : Int32) (u : Nat) (hl0 : l.stackTraces = false) (hFu : F u) (hFl : ∀ q, F q → gLo g ≤ q) : Cw l g yX0_setWeight cX0_setWeight 5 (some .int) [(0, 10, 13, 21), (0, 10, 17, 13)] 16 33 275 [.ref o, .int q, .int v, .ref u] (fun H => SkR g F S n st ln hf hs o H ∧ ∃ f, Al g u 1 f H) (WP g F o u (s_set 173 (!inB v (nI 0) (nI 9)) S st q v)) := by
  refine Cw.of (by decide) (Nat.le_of_ble_eq_true rfl) ?_
  intro p e s m args below meth c X hT hP ls hl
  have hx := X.1
  have hb := X.2.1
  have hKV := X.2.2.2.2.2.2.2.1.1
  have hNC : NC s := hKV.2.2.2.2.2.2.2.2.2.2.2.2.2.2
  have hL : ∀ q ∈ ([] : List Loc), gLo g ≤ q.base := fun _ h => by cases h
  obtain ⟨hsk, f, hu⟩ := hP
  have hl : lv_has ls 5 [(0, .ref o), (1, .int q), (2, .int v), (3, .ref u)] := hl
  refine lv_aload_n hx hb dX0_setWeight_0 rfl (lv_at hl 3 rfl) ?_
  refine lv_iconst (v := nI 0) hx hb dX0_setWeight_1 (by decide) ?_
  refine lv_aload_n hx hb dX0_setWeight_2 rfl (lv_at hl 0 rfl) ?_
  refine lv_iload_n hx hb dX0_setWeight_3 rfl (lv_at hl 1 rfl) ?_
  refine lv_iload_n hx hb dX0_setWeight_4 rfl (lv_at hl 2 rfl) ?_
  refine Ce.runV (ct_X1_setWeight l g F S n st ln hf hs o q v hl0) X hL hl vb_X1_setWeight q1451 (hsk.recv hKV) rfl rfl (Nat.le_of_ble_eq_true rfl) dX0_setWeight_5 ⟨Nat.le_of_ble_eq_true rfl, Nat.le_of_ble_eq_true rfl⟩ (by omega) (by omega) hsk (fun E ce q0 H locs hL hpx hce hcv hcl => ?_) (fun r H locs hL hp => ?_)
  · obtain ⟨hE, hX, hC⟩ := hpx
    have hu := hu.chg hC (fun y => y hFu)
    rcases hE with ⟨rfl, hk⟩ | ⟨rfl, hk⟩
    ·
      refine r_catch1 X hT rfl (by decide) q1368 q1043 hce hcv hcl ?_
      refine lv_astore (lv' := [(4, .ref _), (0, .ref _), (1, .int _), (2, .int _), (3, .ref _)]) hx hb dX0_setWeight_13 hl (by decide) rfl (fun ls hl => ?_)
      refine lv_iconst (v := nI 1) hx hb dX0_setWeight_15 (by decide) ?_
      exact vx_ret (r_iret X hL rfl rfl dX0_setWeight_16 (by omega) (by omega) (WP.cx hk (by decide) hX hC hu))
    ·
      refine r_catch2 X hT rfl (by decide) (by decide) q1310 q1368 hNC.2.1 q804 hce hcv hcl ?_
      refine lv_astore (lv' := [(4, .ref _), (0, .ref _), (1, .int _), (2, .int _), (3, .ref _)]) hx hb dX0_setWeight_17 hl (by decide) rfl (fun ls hl => ?_)
      refine lv_iconst (v := nI 2) hx hb dX0_setWeight_19 (by decide) ?_
      exact vx_ret (r_iret X hL rfl rfl dX0_setWeight_20 (by omega) (by omega) (WP.cx hk (by decide) hX hC hu))
  · obtain ⟨h0, hr, hX, hC⟩ := hp
    have hu := hu.chg hC (fun y => y hFu)
    obtain ⟨v0, hv⟩ : ∃ v9, ((s_set 173 (!inB v (nI 0) (nI 9)) S st q v)).2.1 = some (.int v9) := by unfold s_set; (repeat' split) <;> exact ⟨_, rfl⟩
    rw [hv] at hr
    subst hr
    refine lv_i2l hx hb dX0_setWeight_8 rfl ?_
    refine r_lst X hL hu (hFl _ hFu) 0 rfl (by decide) (by decide) dX0_setWeight_9 (fun H locs hL h1 h2 => ?_)
    refine lv_goto (tgt := 21) hx hb dX0_setWeight_10 (by decide) ?_
    refine lv_iconst (v := nI 0) hx hb dX0_setWeight_21 (by decide) ?_
    exact vx_ret (r_iret X hL rfl rfl dX0_setWeight_22 (by omega) (by omega) (WP.c0 h0 hv rfl hX hC h1 h2 hFu hKV.gE hFl))
theorem sw_X0_setWeight : SBW yX0_setWeight cX0_setWeight 5 (some .int) [(0, 10, 13, 21), (0, 10, 17, 13)] 4 := ⟨q1449, q98, q1450, ⟨by decide, by decide, by decide +kernel⟩⟩

set_option maxRecDepth 100000 in
set_option maxHeartbeats 4000000 in
theorem ct_X0_append (l : Launch) (g : GT) (F : Nat → Prop) (S : MS) (n st ln : Nat) (hf hs : Bool) (o : Nat) (v : Int32) (u : Nat) (hl0 : l.stackTraces = false) (hFu : F u) (hFl : ∀ q, F q → gLo g ≤ q) : Cw l g yX0_append cX0_append 4 (some .int) [(0, 9, 12, 13), (0, 9, 15, 15)] 10 2 12 [.ref o, .int v, .ref u] (fun H => SkR g F S n st ln hf hs o H ∧ ∃ f, Al g u 1 f H) (WP g F o u (s_append S ln v)) := by
  refine Cw.of (by decide) (Nat.le_of_ble_eq_true rfl) ?_
  intro p e s m args below meth c X hT hP ls hl
  have hx := X.1
  have hb := X.2.1
  have hKV := X.2.2.2.2.2.2.2.1.1
  have hNC : NC s := hKV.2.2.2.2.2.2.2.2.2.2.2.2.2.2
  have hL : ∀ q ∈ ([] : List Loc), gLo g ≤ q.base := fun _ h => by cases h
  obtain ⟨hsk, f, hu⟩ := hP
  have hl : lv_has ls 4 [(0, .ref o), (1, .int v), (2, .ref u)] := hl
  refine lv_aload_n hx hb dX0_append_0 rfl (lv_at hl 2 rfl) ?_
  refine lv_iconst (v := nI 0) hx hb dX0_append_1 (by decide) ?_
  refine lv_aload_n hx hb dX0_append_2 rfl (lv_at hl 0 rfl) ?_
  refine lv_iload_n hx hb dX0_append_3 rfl (lv_at hl 1 rfl) ?_
  refine Ce.runV (ct_X1_append l g F S n st ln hf hs o v hl0) X hL hl vb_X1_append q1458 (hsk.recv hKV) rfl rfl (Nat.le_of_ble_eq_true rfl) dX0_append_4 ⟨Nat.le_of_ble_eq_true rfl, Nat.le_of_ble_eq_true rfl⟩ (by omega) (by omega) hsk (fun E ce q0 H locs hL hpx hce hcv hcl => ?_) (fun r H locs hL hp => ?_)
  · obtain ⟨hE, hX, hC⟩ := hpx
    have hu := hu.chg hC (fun y => y hFu)
    rcases hE with ⟨rfl, hk⟩ | ⟨rfl, hk⟩
    ·
      refine r_catch1 X hT rfl (by decide) q1310 q804 hce hcv hcl ?_
      refine lv_astore_n (lv' := [(3, .ref _), (0, .ref _), (1, .int _), (2, .ref _)]) hx hb dX0_append_12 rfl hl (by decide) rfl (fun ls hl => ?_)
      refine lv_iconst (v := nI 1) hx hb dX0_append_13 (by decide) ?_
      exact vx_ret (r_iret X hL rfl rfl dX0_append_14 (by omega) (by omega) (WP.cx hk (by decide) hX hC hu))
    ·
      refine r_catch2 X hT rfl (by decide) (by decide) q1311 q1310 hNC.1 q454 hce hcv hcl ?_
      refine lv_astore_n (lv' := [(3, .ref _), (0, .ref _), (1, .int _), (2, .ref _)]) hx hb dX0_append_15 rfl hl (by decide) rfl (fun ls hl => ?_)
      refine lv_iconst (v := nI 2) hx hb dX0_append_16 (by decide) ?_
      exact vx_ret (r_iret X hL rfl rfl dX0_append_17 (by omega) (by omega) (WP.cx hk (by decide) hX hC hu))
  · obtain ⟨h0, hr, hX, hC⟩ := hp
    have hu := hu.chg hC (fun y => y hFu)
    obtain ⟨v0, hv⟩ : ∃ v9, ((s_append S ln v)).2.1 = some (.int v9) := by unfold s_append; (repeat' split) <;> exact ⟨_, rfl⟩
    rw [hv] at hr
    subst hr
    refine lv_i2l hx hb dX0_append_7 rfl ?_
    refine r_lst X hL hu (hFl _ hFu) 0 rfl (by decide) (by decide) dX0_append_8 (fun H locs hL h1 h2 => ?_)
    refine lv_goto (tgt := 18) hx hb dX0_append_9 (by decide) ?_
    refine lv_iconst (v := nI 0) hx hb dX0_append_18 (by decide) ?_
    exact vx_ret (r_iret X hL rfl rfl dX0_append_19 (by omega) (by omega) (WP.c0 h0 hv rfl hX hC h1 h2 hFu hKV.gE hFl))
theorem sw_X0_append : SBW yX0_append cX0_append 4 (some .int) [(0, 9, 12, 13), (0, 9, 15, 15)] 3 := ⟨q1456, q98, q1457, ⟨by decide, by decide, by decide +kernel⟩⟩

set_option maxRecDepth 100000 in
set_option maxHeartbeats 4000000 in
theorem ct_X0_follow (l : Launch) (g : GT) (F : Nat → Prop) (S : MS) (n st ln : Nat) (hf hs : Bool) (o : Nat) (u : Nat) (hl0 : l.stackTraces = false) (hFu : F u) (hFl : ∀ q, F q → gLo g ≤ q) : Cw l g yX0_follow cX0_follow 3 (some .int) [(0, 8, 11, 13), (0, 8, 14, 15)] 21 690 9600 [.ref o, .ref u] (fun H => SkR g F S n st ln hf hs o H ∧ ∃ f, Al g u 1 f H) (WP g F o u (s_follow S n ln st)) := by
  refine Cw.of (by decide) (Nat.le_of_ble_eq_true rfl) ?_
  intro p e s m args below meth c X hT hP ls hl
  have hx := X.1
  have hb := X.2.1
  have hKV := X.2.2.2.2.2.2.2.1.1
  have hNC : NC s := hKV.2.2.2.2.2.2.2.2.2.2.2.2.2.2
  have hL : ∀ q ∈ ([] : List Loc), gLo g ≤ q.base := fun _ h => by cases h
  obtain ⟨hsk, f, hu⟩ := hP
  have hl : lv_has ls 3 [(0, .ref o), (1, .ref u)] := hl
  refine lv_aload_n hx hb dX0_follow_0 rfl (lv_at hl 1 rfl) ?_
  refine lv_iconst (v := nI 0) hx hb dX0_follow_1 (by decide) ?_
  refine lv_aload_n hx hb dX0_follow_2 rfl (lv_at hl 0 rfl) ?_
  refine Ce.runV (ct_X1_follow l g F S n st ln hf hs o hl0) X hL hl vb_X1_follow q1482 (hsk.recv hKV) rfl rfl (Nat.le_of_ble_eq_true rfl) dX0_follow_3 ⟨Nat.le_of_ble_eq_true rfl, Nat.le_of_ble_eq_true rfl⟩ (by omega) (by omega) hsk (fun E ce q0 H locs hL hpx hce hcv hcl => ?_) (fun r H locs hL hp => ?_)
  · obtain ⟨hE, hX, hC⟩ := hpx
    have hu := hu.chg hC (fun y => y hFu)
    rcases hE with ⟨rfl, hk⟩ | ⟨rfl, hk⟩
    ·
      refine r_catch1 X hT rfl (by decide) q1310 q804 hce hcv hcl ?_
      refine lv_astore_n (lv' := [(2, .ref _), (0, .ref _), (1, .ref _)]) hx hb dX0_follow_11 rfl hl (by decide) rfl (fun ls hl => ?_)
      refine lv_iconst (v := nI 1) hx hb dX0_follow_12 (by decide) ?_
      exact vx_ret (r_iret X hL rfl rfl dX0_follow_13 (by omega) (by omega) (WP.cx hk (by decide) hX hC hu))
    ·
      refine r_catch2 X hT rfl (by decide) (by decide) q1311 q1310 hNC.1 q454 hce hcv hcl ?_
      refine lv_astore_n (lv' := [(2, .ref _), (0, .ref _), (1, .ref _)]) hx hb dX0_follow_14 rfl hl (by decide) rfl (fun ls hl => ?_)
      refine lv_iconst (v := nI 2) hx hb dX0_follow_15 (by decide) ?_
      exact vx_ret (r_iret X hL rfl rfl dX0_follow_16 (by omega) (by omega) (WP.cx hk (by decide) hX hC hu))
  · obtain ⟨h0, hr, hX, hC⟩ := hp
    have hu := hu.chg hC (fun y => y hFu)
    obtain ⟨v0, hv⟩ : ∃ v9, ((s_follow S n ln st)).2.1 = some (.int v9) := by unfold s_follow; (repeat' split) <;> exact ⟨_, rfl⟩
    rw [hv] at hr
    subst hr
    refine lv_i2l hx hb dX0_follow_6 rfl ?_
    refine r_lst X hL hu (hFl _ hFu) 0 rfl (by decide) (by decide) dX0_follow_7 (fun H locs hL h1 h2 => ?_)
    refine lv_goto (tgt := 17) hx hb dX0_follow_8 (by decide) ?_
    refine lv_iconst (v := nI 0) hx hb dX0_follow_17 (by decide) ?_
    exact vx_ret (r_iret X hL rfl rfl dX0_follow_18 (by omega) (by omega) (WP.c0 h0 hv rfl hX hC h1 h2 hFu hKV.gE hFl))
theorem sw_X0_follow : SBW yX0_follow cX0_follow 3 (some .int) [(0, 8, 11, 13), (0, 8, 14, 15)] 2 := ⟨q1480, q98, q1481, ⟨by decide, by decide, by decide +kernel⟩⟩

set_option maxRecDepth 100000 in
set_option maxHeartbeats 4000000 in
theorem ct_X0_keep (l : Launch) (g : GT) (F : Nat → Prop) (S : MS) (n st ln : Nat) (hf hs : Bool) (o : Nat) (v : Int32) (hl0 : l.stackTraces = false) (hFl : ∀ q, F q → gLo g ≤ q) : Cw l g yX0_keep cX0_keep 3 (some .int) [(0, 5, 8, 13)] 15 31 266 [.ref o, .int v] (SkR g F S n st ln hf hs o) (WV g F o (s_keep S hf hs v)) := by
  refine Cw.of (by decide) (Nat.le_of_ble_eq_true rfl) ?_
  intro p e s m args below meth c X hT hP ls hl
  have hx := X.1
  have hb := X.2.1
  have hKV := X.2.2.2.2.2.2.2.1.1
  have hNC : NC s := hKV.2.2.2.2.2.2.2.2.2.2.2.2.2.2
  have hL : ∀ q ∈ ([] : List Loc), gLo g ≤ q.base := fun _ h => by cases h
  have hsk := hP
  have hn2 : ¬ ((s_keep S hf hs v)).1 = 2 := by unfold s_keep; (try dsimp only); (repeat' split) <;> first | exact fun h => absurd (show (1 : Nat) = 2 from h) (by decide) | exact fun h => absurd (show (0 : Nat) = 2 from h) (by decide)
  have hl : lv_has ls 3 [(0, .ref o), (1, .int v)] := hl
  refine lv_aload_n hx hb dX0_keep_0 rfl (lv_at hl 0 rfl) ?_
  refine lv_iload_n hx hb dX0_keep_1 rfl (lv_at hl 1 rfl) ?_
  refine Ce.runV (ct_X1_keep l g F S n st ln hf hs o v hl0) X hL hl vb_X1_keep q1512 (hsk.recv hKV) rfl rfl (Nat.le_of_ble_eq_true rfl) dX0_keep_2 ⟨Nat.le_of_ble_eq_true rfl, Nat.le_of_ble_eq_true rfl⟩ (by omega) (by omega) hsk (fun E ce q0 H locs hL hpx hce hcv hcl => ?_) (fun r H locs hL hp => ?_)
  · obtain ⟨hE, hX, hC⟩ := hpx
    rcases hE with ⟨rfl, hk⟩ | ⟨rfl, hk⟩
    ·
      refine r_catch1 X hT rfl (by decide) q1310 q804 hce hcv hcl ?_
      refine lv_astore_n (lv' := [(2, .ref _), (0, .ref _), (1, .int _)]) hx hb dX0_keep_8 rfl hl (by decide) rfl (fun ls hl => ?_)
      refine lv_iconst (v := nI 1) hx hb dX0_keep_9 (by decide) ?_
      exact vx_ret (r_iret X hL rfl rfl dX0_keep_10 (by omega) (by omega) (WV.mk hk hX hC))
    ·
      exact absurd hk hn2
  · obtain ⟨h0, hr, hX, hC⟩ := hp
    have hv : ((s_keep S hf hs v)).2.1 = none := by unfold s_keep; first | rfl | ((repeat' split) <;> rfl)
    rw [hv] at hr
    subst hr
    refine lv_goto (tgt := 11) hx hb dX0_keep_5 (by decide) ?_
    refine lv_iconst (v := nI 0) hx hb dX0_keep_11 (by decide) ?_
    exact vx_ret (r_iret X hL rfl rfl dX0_keep_12 (by omega) (by omega) (WV.mk h0 hX hC))
theorem sw_X0_keep : SBW yX0_keep cX0_keep 3 (some .int) [(0, 5, 8, 13)] 2 := ⟨q1510, q98, q1511, ⟨by decide, by decide, by decide +kernel⟩⟩

set_option maxRecDepth 100000 in
set_option maxHeartbeats 4000000 in
theorem ct_X0_goBack (l : Launch) (g : GT) (F : Nat → Prop) (S : MS) (n st ln : Nat) (hf hs : Bool) (o : Nat) (v : Int32) (hl0 : l.stackTraces = false) (hFl : ∀ q, F q → gLo g ≤ q) : Cw l g yX0_goBack cX0_goBack 3 (some .int) [(0, 5, 8, 13), (0, 5, 11, 15)] 16 63 535 [.ref o, .int v] (SkR g F S n st ln hf hs o) (WV g F o (s_goBack S st hf hs v)) := by
  refine Cw.of (by decide) (Nat.le_of_ble_eq_true rfl) ?_
  intro p e s m args below meth c X hT hP ls hl
  have hx := X.1
  have hb := X.2.1
  have hKV := X.2.2.2.2.2.2.2.1.1
  have hNC : NC s := hKV.2.2.2.2.2.2.2.2.2.2.2.2.2.2
  have hL : ∀ q ∈ ([] : List Loc), gLo g ≤ q.base := fun _ h => by cases h
  have hsk := hP
  have hl : lv_has ls 3 [(0, .ref o), (1, .int v)] := hl
  refine lv_aload_n hx hb dX0_goBack_0 rfl (lv_at hl 0 rfl) ?_
  refine lv_iload_n hx hb dX0_goBack_1 rfl (lv_at hl 1 rfl) ?_
  refine Ce.runV (ct_X1_goBack l g F S n st ln hf hs o v hl0) X hL hl vb_X1_goBack q1522 (hsk.recv hKV) rfl rfl (Nat.le_of_ble_eq_true rfl) dX0_goBack_2 ⟨Nat.le_of_ble_eq_true rfl, Nat.le_of_ble_eq_true rfl⟩ (by omega) (by omega) hsk (fun E ce q0 H locs hL hpx hce hcv hcl => ?_) (fun r H locs hL hp => ?_)
  · obtain ⟨hE, hX, hC⟩ := hpx
    rcases hE with ⟨rfl, hk⟩ | ⟨rfl, hk⟩
    ·
      refine r_catch1 X hT rfl (by decide) q1310 q804 hce hcv hcl ?_
      refine lv_astore_n (lv' := [(2, .ref _), (0, .ref _), (1, .int _)]) hx hb dX0_goBack_8 rfl hl (by decide) rfl (fun ls hl => ?_)
      refine lv_iconst (v := nI 1) hx hb dX0_goBack_9 (by decide) ?_
      exact vx_ret (r_iret X hL rfl rfl dX0_goBack_10 (by omega) (by omega) (WV.mk hk hX hC))
    ·
      refine r_catch2 X hT rfl (by decide) (by decide) q1311 q1310 hNC.1 q454 hce hcv hcl ?_
      refine lv_astore_n (lv' := [(2, .ref _), (0, .ref _), (1, .int _)]) hx hb dX0_goBack_11 rfl hl (by decide) rfl (fun ls hl => ?_)
      refine lv_iconst (v := nI 2) hx hb dX0_goBack_12 (by decide) ?_
      exact vx_ret (r_iret X hL rfl rfl dX0_goBack_13 (by omega) (by omega) (WV.mk hk hX hC))
  · obtain ⟨h0, hr, hX, hC⟩ := hp
    have hv : ((s_goBack S st hf hs v)).2.1 = none := by unfold s_goBack; first | rfl | ((repeat' split) <;> rfl)
    rw [hv] at hr
    subst hr
    refine lv_goto (tgt := 14) hx hb dX0_goBack_5 (by decide) ?_
    refine lv_iconst (v := nI 0) hx hb dX0_goBack_14 (by decide) ?_
    exact vx_ret (r_iret X hL rfl rfl dX0_goBack_15 (by omega) (by omega) (WV.mk h0 hX hC))
theorem sw_X0_goBack : SBW yX0_goBack cX0_goBack 3 (some .int) [(0, 5, 8, 13), (0, 5, 11, 15)] 2 := ⟨q1520, q98, q1521, ⟨by decide, by decide, by decide +kernel⟩⟩

set_option maxRecDepth 100000 in
set_option maxHeartbeats 4000000 in
theorem ct_X0_undo (l : Launch) (g : GT) (F : Nat → Prop) (S : MS) (n st ln : Nat) (hf hs : Bool) (o : Nat) (hl0 : l.stackTraces = false) (hFl : ∀ q, F q → gLo g ≤ q) : Cw l g yX0_undo cX0_undo 2 (some .int) [(0, 4, 7, 15)] 10 1 6 [.ref o] (SkR g F S n st ln hf hs o) (WV g F o (s_undo S st)) := by
  refine Cw.of (by decide) (Nat.le_of_ble_eq_true rfl) ?_
  intro p e s m args below meth c X hT hP ls hl
  have hx := X.1
  have hb := X.2.1
  have hKV := X.2.2.2.2.2.2.2.1.1
  have hNC : NC s := hKV.2.2.2.2.2.2.2.2.2.2.2.2.2.2
  have hL : ∀ q ∈ ([] : List Loc), gLo g ≤ q.base := fun _ h => by cases h
  have hsk := hP
  have hn2 : ¬ ((s_undo S st)).1 = 2 := by unfold s_undo; (try dsimp only); (repeat' split) <;> first | exact fun h => absurd (show (1 : Nat) = 2 from h) (by decide) | exact fun h => absurd (show (0 : Nat) = 2 from h) (by decide)
  have hl : lv_has ls 2 [(0, .ref o)] := hl
  refine lv_aload_n hx hb dX0_undo_0 rfl (lv_at hl 0 rfl) ?_
  refine Ce.runV (ct_X1_undo l g F S n st ln hf hs o hl0) X hL hl vb_X1_undo q1529 (hsk.recv hKV) rfl rfl (Nat.le_of_ble_eq_true rfl) dX0_undo_1 ⟨Nat.le_of_ble_eq_true rfl, Nat.le_of_ble_eq_true rfl⟩ (by omega) (by omega) hsk (fun E ce q0 H locs hL hpx hce hcv hcl => ?_) (fun r H locs hL hp => ?_)
  · obtain ⟨hE, hX, hC⟩ := hpx
    rcases hE with ⟨rfl, hk⟩ | ⟨rfl, hk⟩
    ·
      refine r_catch1 X hT rfl (by decide) q1311 q454 hce hcv hcl ?_
      refine lv_astore_n (lv' := [(1, .ref _), (0, .ref _)]) hx hb dX0_undo_7 rfl hl (by decide) rfl (fun ls hl => ?_)
      refine lv_iconst (v := nI 1) hx hb dX0_undo_8 (by decide) ?_
      exact vx_ret (r_iret X hL rfl rfl dX0_undo_9 (by omega) (by omega) (WV.mk hk hX hC))
    ·
      exact absurd hk hn2
  · obtain ⟨h0, hr, hX, hC⟩ := hp
    have hv : ((s_undo S st)).2.1 = none := by unfold s_undo; first | rfl | ((repeat' split) <;> rfl)
    rw [hv] at hr
    subst hr
    refine lv_goto (tgt := 10) hx hb dX0_undo_4 (by decide) ?_
    refine lv_iconst (v := nI 0) hx hb dX0_undo_10 (by decide) ?_
    exact vx_ret (r_iret X hL rfl rfl dX0_undo_11 (by omega) (by omega) (WV.mk h0 hX hC))
theorem sw_X0_undo : SBW yX0_undo cX0_undo 2 (some .int) [(0, 4, 7, 15)] 1 := ⟨q1527, q98, q1528, ⟨by decide, by decide, by decide +kernel⟩⟩

set_option maxRecDepth 100000 in
set_option maxHeartbeats 4000000 in
theorem ct_X0_valueOf (l : Launch) (g : GT) (F : Nat → Prop) (S : MS) (n st ln : Nat) (hf hs : Bool) (o : Nat) (i q : Int32) (u : Nat) (hl0 : l.stackTraces = false) (hFu : F u) (hFl : ∀ q, F q → gLo g ≤ q) : Cw l g yX0_valueOf cX0_valueOf 5 (some .int) [(0, 10, 13, 21)] 11 2 12 [.ref o, .int i, .int q, .ref u] (fun H => SkR g F S n st ln hf hs o H ∧ ∃ f, Al g u 1 f H) (WP g F o u (s_val S n i q)) := by
  refine Cw.of (by decide) (Nat.le_of_ble_eq_true rfl) ?_
  intro p e s m args below meth c X hT hP ls hl
  have hx := X.1
  have hb := X.2.1
  have hKV := X.2.2.2.2.2.2.2.1.1
  have hNC : NC s := hKV.2.2.2.2.2.2.2.2.2.2.2.2.2.2
  have hL : ∀ q ∈ ([] : List Loc), gLo g ≤ q.base := fun _ h => by cases h
  obtain ⟨hsk, f, hu⟩ := hP
  have he : ((s_val S n i q)).2.2 = S := by unfold s_val; (repeat' split) <;> rfl
  have hn2 : ¬ ((s_val S n i q)).1 = 2 := by unfold s_val; (try dsimp only); (repeat' split) <;> first | exact fun h => absurd (show (1 : Nat) = 2 from h) (by decide) | exact fun h => absurd (show (0 : Nat) = 2 from h) (by decide)
  have hl : lv_has ls 5 [(0, .ref o), (1, .int i), (2, .int q), (3, .ref u)] := hl
  refine lv_aload_n hx hb dX0_valueOf_0 rfl (lv_at hl 3 rfl) ?_
  refine lv_iconst (v := nI 0) hx hb dX0_valueOf_1 (by decide) ?_
  refine lv_aload_n hx hb dX0_valueOf_2 rfl (lv_at hl 0 rfl) ?_
  refine lv_iload_n hx hb dX0_valueOf_3 rfl (lv_at hl 1 rfl) ?_
  refine lv_iload_n hx hb dX0_valueOf_4 rfl (lv_at hl 2 rfl) ?_
  refine Ce.runV (ct_X1_valueOf l g F S n st ln hf hs o i q hl0) X hL hl vb_X1_valueOf q1555 (hsk.recv hKV) rfl rfl (Nat.le_of_ble_eq_true rfl) dX0_valueOf_5 ⟨Nat.le_of_ble_eq_true rfl, Nat.le_of_ble_eq_true rfl⟩ (by omega) (by omega) hsk (fun E ce q0 H locs hL hpx hce hcv hcl => ?_) (fun r H locs hL hp => ?_)
  · obtain ⟨hE, hXE⟩ := hpx
    have hX : SkX g F ((s_val S n i q)).2.2 o H := by rw [he]; exact (hsk.ext hXE).x
    have hC : Chg (fun q => ¬ F q) s.heap H := hXE.chg
    have hu := hu.chg hC (fun y => y hFu)
    rcases hE with ⟨rfl, hk⟩ | ⟨rfl, hk⟩
    ·
      refine r_catch1 X hT rfl (by decide) q1368 q1043 hce hcv hcl ?_
      refine lv_astore (lv' := [(4, .ref _), (0, .ref _), (1, .int _), (2, .int _), (3, .ref _)]) hx hb dX0_valueOf_13 hl (by decide) rfl (fun ls hl => ?_)
      refine lv_iconst (v := nI 1) hx hb dX0_valueOf_15 (by decide) ?_
      exact vx_ret (r_iret X hL rfl rfl dX0_valueOf_16 (by omega) (by omega) (WP.cx hk (by decide) hX hC hu))
    ·
      exact absurd hk hn2
  · obtain ⟨h0, hr, hXE⟩ := hp
    have hX : SkX g F ((s_val S n i q)).2.2 o H := by rw [he]; exact (hsk.ext hXE).x
    have hC : Chg (fun q => ¬ F q) s.heap H := hXE.chg
    have hu := hu.chg hC (fun y => y hFu)
    obtain ⟨v0, hv⟩ : ∃ v9, ((s_val S n i q)).2.1 = some (.int v9) := by unfold s_val; (repeat' split) <;> exact ⟨_, rfl⟩
    rw [hv] at hr
    subst hr
    refine lv_i2l hx hb dX0_valueOf_8 rfl ?_
    refine r_lst X hL hu (hFl _ hFu) 0 rfl (by decide) (by decide) dX0_valueOf_9 (fun H locs hL h1 h2 => ?_)
    refine lv_goto (tgt := 17) hx hb dX0_valueOf_10 (by decide) ?_
    refine lv_iconst (v := nI 0) hx hb dX0_valueOf_17 (by decide) ?_
    exact vx_ret (r_iret X hL rfl rfl dX0_valueOf_18 (by omega) (by omega) (WP.c0 h0 hv rfl hX hC h1 h2 hFu hKV.gE hFl))
theorem sw_X0_valueOf : SBW yX0_valueOf cX0_valueOf 5 (some .int) [(0, 10, 13, 21)] 4 := ⟨q1553, q98, q1554, ⟨by decide, by decide, by decide +kernel⟩⟩

set_option maxRecDepth 100000 in
set_option maxHeartbeats 4000000 in
theorem ct_X0_wishOf (l : Launch) (g : GT) (F : Nat → Prop) (S : MS) (n st ln : Nat) (hf hs : Bool) (o : Nat) (q : Int32) (u : Nat) (hl0 : l.stackTraces = false) (hFu : F u) (hFl : ∀ q, F q → gLo g ≤ q) : Cw l g yX0_wishOf cX0_wishOf 4 (some .int) [(0, 9, 12, 21)] 9 1 6 [.ref o, .int q, .ref u] (fun H => SkR g F S n st ln hf hs o H ∧ ∃ f, Al g u 1 f H) (WP g F o u (s_of S 161 q)) := by
  refine Cw.of (by decide) (Nat.le_of_ble_eq_true rfl) ?_
  intro p e s m args below meth c X hT hP ls hl
  have hx := X.1
  have hb := X.2.1
  have hKV := X.2.2.2.2.2.2.2.1.1
  have hNC : NC s := hKV.2.2.2.2.2.2.2.2.2.2.2.2.2.2
  have hL : ∀ q ∈ ([] : List Loc), gLo g ≤ q.base := fun _ h => by cases h
  obtain ⟨hsk, f, hu⟩ := hP
  have he : ((s_of S 161 q)).2.2 = S := by unfold s_of; (repeat' split) <;> rfl
  have hn2 : ¬ ((s_of S 161 q)).1 = 2 := by unfold s_of; (try dsimp only); (repeat' split) <;> first | exact fun h => absurd (show (1 : Nat) = 2 from h) (by decide) | exact fun h => absurd (show (0 : Nat) = 2 from h) (by decide)
  have hl : lv_has ls 4 [(0, .ref o), (1, .int q), (2, .ref u)] := hl
  refine lv_aload_n hx hb dX0_wishOf_0 rfl (lv_at hl 2 rfl) ?_
  refine lv_iconst (v := nI 0) hx hb dX0_wishOf_1 (by decide) ?_
  refine lv_aload_n hx hb dX0_wishOf_2 rfl (lv_at hl 0 rfl) ?_
  refine lv_iload_n hx hb dX0_wishOf_3 rfl (lv_at hl 1 rfl) ?_
  refine Ce.runV (ct_X1_wishOf l g F S n st ln hf hs o q hl0) X hL hl vb_X1_wishOf q1566 (hsk.recv hKV) rfl rfl (Nat.le_of_ble_eq_true rfl) dX0_wishOf_4 ⟨Nat.le_of_ble_eq_true rfl, Nat.le_of_ble_eq_true rfl⟩ (by omega) (by omega) hsk (fun E ce q0 H locs hL hpx hce hcv hcl => ?_) (fun r H locs hL hp => ?_)
  · obtain ⟨hE, hXE⟩ := hpx
    have hX : SkX g F ((s_of S 161 q)).2.2 o H := by rw [he]; exact (hsk.ext hXE).x
    have hC : Chg (fun q => ¬ F q) s.heap H := hXE.chg
    have hu := hu.chg hC (fun y => y hFu)
    rcases hE with ⟨rfl, hk⟩ | ⟨rfl, hk⟩
    ·
      refine r_catch1 X hT rfl (by decide) q1368 q1043 hce hcv hcl ?_
      refine lv_astore_n (lv' := [(3, .ref _), (0, .ref _), (1, .int _), (2, .ref _)]) hx hb dX0_wishOf_12 rfl hl (by decide) rfl (fun ls hl => ?_)
      refine lv_iconst (v := nI 1) hx hb dX0_wishOf_13 (by decide) ?_
      exact vx_ret (r_iret X hL rfl rfl dX0_wishOf_14 (by omega) (by omega) (WP.cx hk (by decide) hX hC hu))
    ·
      exact absurd hk hn2
  · obtain ⟨h0, hr, hXE⟩ := hp
    have hX : SkX g F ((s_of S 161 q)).2.2 o H := by rw [he]; exact (hsk.ext hXE).x
    have hC : Chg (fun q => ¬ F q) s.heap H := hXE.chg
    have hu := hu.chg hC (fun y => y hFu)
    obtain ⟨v0, hv⟩ : ∃ v9, ((s_of S 161 q)).2.1 = some (.int v9) := by unfold s_of; (repeat' split) <;> exact ⟨_, rfl⟩
    rw [hv] at hr
    subst hr
    refine lv_i2l hx hb dX0_wishOf_7 rfl ?_
    refine r_lst X hL hu (hFl _ hFu) 0 rfl (by decide) (by decide) dX0_wishOf_8 (fun H locs hL h1 h2 => ?_)
    refine lv_goto (tgt := 15) hx hb dX0_wishOf_9 (by decide) ?_
    refine lv_iconst (v := nI 0) hx hb dX0_wishOf_15 (by decide) ?_
    exact vx_ret (r_iret X hL rfl rfl dX0_wishOf_16 (by omega) (by omega) (WP.c0 h0 hv rfl hX hC h1 h2 hFu hKV.gE hFl))
theorem sw_X0_wishOf : SBW yX0_wishOf cX0_wishOf 4 (some .int) [(0, 9, 12, 21)] 3 := ⟨q1564, q98, q1565, ⟨by decide, by decide, by decide +kernel⟩⟩

set_option maxRecDepth 100000 in
set_option maxHeartbeats 4000000 in
theorem ct_X0_leastOf (l : Launch) (g : GT) (F : Nat → Prop) (S : MS) (n st ln : Nat) (hf hs : Bool) (o : Nat) (q : Int32) (u : Nat) (hl0 : l.stackTraces = false) (hFu : F u) (hFl : ∀ q, F q → gLo g ≤ q) : Cw l g yX0_leastOf cX0_leastOf 4 (some .int) [(0, 9, 12, 21)] 9 1 6 [.ref o, .int q, .ref u] (fun H => SkR g F S n st ln hf hs o H ∧ ∃ f, Al g u 1 f H) (WP g F o u (s_of S 165 q)) := by
  refine Cw.of (by decide) (Nat.le_of_ble_eq_true rfl) ?_
  intro p e s m args below meth c X hT hP ls hl
  have hx := X.1
  have hb := X.2.1
  have hKV := X.2.2.2.2.2.2.2.1.1
  have hNC : NC s := hKV.2.2.2.2.2.2.2.2.2.2.2.2.2.2
  have hL : ∀ q ∈ ([] : List Loc), gLo g ≤ q.base := fun _ h => by cases h
  obtain ⟨hsk, f, hu⟩ := hP
  have he : ((s_of S 165 q)).2.2 = S := by unfold s_of; (repeat' split) <;> rfl
  have hn2 : ¬ ((s_of S 165 q)).1 = 2 := by unfold s_of; (try dsimp only); (repeat' split) <;> first | exact fun h => absurd (show (1 : Nat) = 2 from h) (by decide) | exact fun h => absurd (show (0 : Nat) = 2 from h) (by decide)
  have hl : lv_has ls 4 [(0, .ref o), (1, .int q), (2, .ref u)] := hl
  refine lv_aload_n hx hb dX0_leastOf_0 rfl (lv_at hl 2 rfl) ?_
  refine lv_iconst (v := nI 0) hx hb dX0_leastOf_1 (by decide) ?_
  refine lv_aload_n hx hb dX0_leastOf_2 rfl (lv_at hl 0 rfl) ?_
  refine lv_iload_n hx hb dX0_leastOf_3 rfl (lv_at hl 1 rfl) ?_
  refine Ce.runV (ct_X1_leastOf l g F S n st ln hf hs o q hl0) X hL hl vb_X1_leastOf q1573 (hsk.recv hKV) rfl rfl (Nat.le_of_ble_eq_true rfl) dX0_leastOf_4 ⟨Nat.le_of_ble_eq_true rfl, Nat.le_of_ble_eq_true rfl⟩ (by omega) (by omega) hsk (fun E ce q0 H locs hL hpx hce hcv hcl => ?_) (fun r H locs hL hp => ?_)
  · obtain ⟨hE, hXE⟩ := hpx
    have hX : SkX g F ((s_of S 165 q)).2.2 o H := by rw [he]; exact (hsk.ext hXE).x
    have hC : Chg (fun q => ¬ F q) s.heap H := hXE.chg
    have hu := hu.chg hC (fun y => y hFu)
    rcases hE with ⟨rfl, hk⟩ | ⟨rfl, hk⟩
    ·
      refine r_catch1 X hT rfl (by decide) q1368 q1043 hce hcv hcl ?_
      refine lv_astore_n (lv' := [(3, .ref _), (0, .ref _), (1, .int _), (2, .ref _)]) hx hb dX0_leastOf_12 rfl hl (by decide) rfl (fun ls hl => ?_)
      refine lv_iconst (v := nI 1) hx hb dX0_leastOf_13 (by decide) ?_
      exact vx_ret (r_iret X hL rfl rfl dX0_leastOf_14 (by omega) (by omega) (WP.cx hk (by decide) hX hC hu))
    ·
      exact absurd hk hn2
  · obtain ⟨h0, hr, hXE⟩ := hp
    have hX : SkX g F ((s_of S 165 q)).2.2 o H := by rw [he]; exact (hsk.ext hXE).x
    have hC : Chg (fun q => ¬ F q) s.heap H := hXE.chg
    have hu := hu.chg hC (fun y => y hFu)
    obtain ⟨v0, hv⟩ : ∃ v9, ((s_of S 165 q)).2.1 = some (.int v9) := by unfold s_of; (repeat' split) <;> exact ⟨_, rfl⟩
    rw [hv] at hr
    subst hr
    refine lv_i2l hx hb dX0_leastOf_7 rfl ?_
    refine r_lst X hL hu (hFl _ hFu) 0 rfl (by decide) (by decide) dX0_leastOf_8 (fun H locs hL h1 h2 => ?_)
    refine lv_goto (tgt := 15) hx hb dX0_leastOf_9 (by decide) ?_
    refine lv_iconst (v := nI 0) hx hb dX0_leastOf_15 (by decide) ?_
    exact vx_ret (r_iret X hL rfl rfl dX0_leastOf_16 (by omega) (by omega) (WP.c0 h0 hv rfl hX hC h1 h2 hFu hKV.gE hFl))
theorem sw_X0_leastOf : SBW yX0_leastOf cX0_leastOf 4 (some .int) [(0, 9, 12, 21)] 3 := ⟨q1571, q98, q1572, ⟨by decide, by decide, by decide +kernel⟩⟩

set_option maxRecDepth 100000 in
set_option maxHeartbeats 4000000 in
theorem ct_X0_mostOf (l : Launch) (g : GT) (F : Nat → Prop) (S : MS) (n st ln : Nat) (hf hs : Bool) (o : Nat) (q : Int32) (u : Nat) (hl0 : l.stackTraces = false) (hFu : F u) (hFl : ∀ q, F q → gLo g ≤ q) : Cw l g yX0_mostOf cX0_mostOf 4 (some .int) [(0, 9, 12, 21)] 9 1 6 [.ref o, .int q, .ref u] (fun H => SkR g F S n st ln hf hs o H ∧ ∃ f, Al g u 1 f H) (WP g F o u (s_of S 169 q)) := by
  refine Cw.of (by decide) (Nat.le_of_ble_eq_true rfl) ?_
  intro p e s m args below meth c X hT hP ls hl
  have hx := X.1
  have hb := X.2.1
  have hKV := X.2.2.2.2.2.2.2.1.1
  have hNC : NC s := hKV.2.2.2.2.2.2.2.2.2.2.2.2.2.2
  have hL : ∀ q ∈ ([] : List Loc), gLo g ≤ q.base := fun _ h => by cases h
  obtain ⟨hsk, f, hu⟩ := hP
  have he : ((s_of S 169 q)).2.2 = S := by unfold s_of; (repeat' split) <;> rfl
  have hn2 : ¬ ((s_of S 169 q)).1 = 2 := by unfold s_of; (try dsimp only); (repeat' split) <;> first | exact fun h => absurd (show (1 : Nat) = 2 from h) (by decide) | exact fun h => absurd (show (0 : Nat) = 2 from h) (by decide)
  have hl : lv_has ls 4 [(0, .ref o), (1, .int q), (2, .ref u)] := hl
  refine lv_aload_n hx hb dX0_mostOf_0 rfl (lv_at hl 2 rfl) ?_
  refine lv_iconst (v := nI 0) hx hb dX0_mostOf_1 (by decide) ?_
  refine lv_aload_n hx hb dX0_mostOf_2 rfl (lv_at hl 0 rfl) ?_
  refine lv_iload_n hx hb dX0_mostOf_3 rfl (lv_at hl 1 rfl) ?_
  refine Ce.runV (ct_X1_mostOf l g F S n st ln hf hs o q hl0) X hL hl vb_X1_mostOf q1580 (hsk.recv hKV) rfl rfl (Nat.le_of_ble_eq_true rfl) dX0_mostOf_4 ⟨Nat.le_of_ble_eq_true rfl, Nat.le_of_ble_eq_true rfl⟩ (by omega) (by omega) hsk (fun E ce q0 H locs hL hpx hce hcv hcl => ?_) (fun r H locs hL hp => ?_)
  · obtain ⟨hE, hXE⟩ := hpx
    have hX : SkX g F ((s_of S 169 q)).2.2 o H := by rw [he]; exact (hsk.ext hXE).x
    have hC : Chg (fun q => ¬ F q) s.heap H := hXE.chg
    have hu := hu.chg hC (fun y => y hFu)
    rcases hE with ⟨rfl, hk⟩ | ⟨rfl, hk⟩
    ·
      refine r_catch1 X hT rfl (by decide) q1368 q1043 hce hcv hcl ?_
      refine lv_astore_n (lv' := [(3, .ref _), (0, .ref _), (1, .int _), (2, .ref _)]) hx hb dX0_mostOf_12 rfl hl (by decide) rfl (fun ls hl => ?_)
      refine lv_iconst (v := nI 1) hx hb dX0_mostOf_13 (by decide) ?_
      exact vx_ret (r_iret X hL rfl rfl dX0_mostOf_14 (by omega) (by omega) (WP.cx hk (by decide) hX hC hu))
    ·
      exact absurd hk hn2
  · obtain ⟨h0, hr, hXE⟩ := hp
    have hX : SkX g F ((s_of S 169 q)).2.2 o H := by rw [he]; exact (hsk.ext hXE).x
    have hC : Chg (fun q => ¬ F q) s.heap H := hXE.chg
    have hu := hu.chg hC (fun y => y hFu)
    obtain ⟨v0, hv⟩ : ∃ v9, ((s_of S 169 q)).2.1 = some (.int v9) := by unfold s_of; (repeat' split) <;> exact ⟨_, rfl⟩
    rw [hv] at hr
    subst hr
    refine lv_i2l hx hb dX0_mostOf_7 rfl ?_
    refine r_lst X hL hu (hFl _ hFu) 0 rfl (by decide) (by decide) dX0_mostOf_8 (fun H locs hL h1 h2 => ?_)
    refine lv_goto (tgt := 15) hx hb dX0_mostOf_9 (by decide) ?_
    refine lv_iconst (v := nI 0) hx hb dX0_mostOf_15 (by decide) ?_
    exact vx_ret (r_iret X hL rfl rfl dX0_mostOf_16 (by omega) (by omega) (WP.c0 h0 hv rfl hX hC h1 h2 hFu hKV.gE hFl))
theorem sw_X0_mostOf : SBW yX0_mostOf cX0_mostOf 4 (some .int) [(0, 9, 12, 21)] 3 := ⟨q1578, q98, q1579, ⟨by decide, by decide, by decide +kernel⟩⟩

set_option maxRecDepth 100000 in
set_option maxHeartbeats 4000000 in
theorem ct_X0_weightOf (l : Launch) (g : GT) (F : Nat → Prop) (S : MS) (n st ln : Nat) (hf hs : Bool) (o : Nat) (q : Int32) (u : Nat) (hl0 : l.stackTraces = false) (hFu : F u) (hFl : ∀ q, F q → gLo g ≤ q) : Cw l g yX0_weightOf cX0_weightOf 4 (some .int) [(0, 9, 12, 21)] 9 1 6 [.ref o, .int q, .ref u] (fun H => SkR g F S n st ln hf hs o H ∧ ∃ f, Al g u 1 f H) (WP g F o u (s_of S 173 q)) := by
  refine Cw.of (by decide) (Nat.le_of_ble_eq_true rfl) ?_
  intro p e s m args below meth c X hT hP ls hl
  have hx := X.1
  have hb := X.2.1
  have hKV := X.2.2.2.2.2.2.2.1.1
  have hNC : NC s := hKV.2.2.2.2.2.2.2.2.2.2.2.2.2.2
  have hL : ∀ q ∈ ([] : List Loc), gLo g ≤ q.base := fun _ h => by cases h
  obtain ⟨hsk, f, hu⟩ := hP
  have he : ((s_of S 173 q)).2.2 = S := by unfold s_of; (repeat' split) <;> rfl
  have hn2 : ¬ ((s_of S 173 q)).1 = 2 := by unfold s_of; (try dsimp only); (repeat' split) <;> first | exact fun h => absurd (show (1 : Nat) = 2 from h) (by decide) | exact fun h => absurd (show (0 : Nat) = 2 from h) (by decide)
  have hl : lv_has ls 4 [(0, .ref o), (1, .int q), (2, .ref u)] := hl
  refine lv_aload_n hx hb dX0_weightOf_0 rfl (lv_at hl 2 rfl) ?_
  refine lv_iconst (v := nI 0) hx hb dX0_weightOf_1 (by decide) ?_
  refine lv_aload_n hx hb dX0_weightOf_2 rfl (lv_at hl 0 rfl) ?_
  refine lv_iload_n hx hb dX0_weightOf_3 rfl (lv_at hl 1 rfl) ?_
  refine Ce.runV (ct_X1_weightOf l g F S n st ln hf hs o q hl0) X hL hl vb_X1_weightOf q1587 (hsk.recv hKV) rfl rfl (Nat.le_of_ble_eq_true rfl) dX0_weightOf_4 ⟨Nat.le_of_ble_eq_true rfl, Nat.le_of_ble_eq_true rfl⟩ (by omega) (by omega) hsk (fun E ce q0 H locs hL hpx hce hcv hcl => ?_) (fun r H locs hL hp => ?_)
  · obtain ⟨hE, hXE⟩ := hpx
    have hX : SkX g F ((s_of S 173 q)).2.2 o H := by rw [he]; exact (hsk.ext hXE).x
    have hC : Chg (fun q => ¬ F q) s.heap H := hXE.chg
    have hu := hu.chg hC (fun y => y hFu)
    rcases hE with ⟨rfl, hk⟩ | ⟨rfl, hk⟩
    ·
      refine r_catch1 X hT rfl (by decide) q1368 q1043 hce hcv hcl ?_
      refine lv_astore_n (lv' := [(3, .ref _), (0, .ref _), (1, .int _), (2, .ref _)]) hx hb dX0_weightOf_12 rfl hl (by decide) rfl (fun ls hl => ?_)
      refine lv_iconst (v := nI 1) hx hb dX0_weightOf_13 (by decide) ?_
      exact vx_ret (r_iret X hL rfl rfl dX0_weightOf_14 (by omega) (by omega) (WP.cx hk (by decide) hX hC hu))
    ·
      exact absurd hk hn2
  · obtain ⟨h0, hr, hXE⟩ := hp
    have hX : SkX g F ((s_of S 173 q)).2.2 o H := by rw [he]; exact (hsk.ext hXE).x
    have hC : Chg (fun q => ¬ F q) s.heap H := hXE.chg
    have hu := hu.chg hC (fun y => y hFu)
    obtain ⟨v0, hv⟩ : ∃ v9, ((s_of S 173 q)).2.1 = some (.int v9) := by unfold s_of; (repeat' split) <;> exact ⟨_, rfl⟩
    rw [hv] at hr
    subst hr
    refine lv_i2l hx hb dX0_weightOf_7 rfl ?_
    refine r_lst X hL hu (hFl _ hFu) 0 rfl (by decide) (by decide) dX0_weightOf_8 (fun H locs hL h1 h2 => ?_)
    refine lv_goto (tgt := 15) hx hb dX0_weightOf_9 (by decide) ?_
    refine lv_iconst (v := nI 0) hx hb dX0_weightOf_15 (by decide) ?_
    exact vx_ret (r_iret X hL rfl rfl dX0_weightOf_16 (by omega) (by omega) (WP.c0 h0 hv rfl hX hC h1 h2 hFu hKV.gE hFl))
theorem sw_X0_weightOf : SBW yX0_weightOf cX0_weightOf 4 (some .int) [(0, 9, 12, 21)] 3 := ⟨q1585, q98, q1586, ⟨by decide, by decide, by decide +kernel⟩⟩

set_option maxRecDepth 100000 in
set_option maxHeartbeats 4000000 in
theorem ct_X0_isCounted (l : Launch) (g : GT) (F : Nat → Prop) (S : MS) (n st ln : Nat) (hf hs : Bool) (o : Nat) (i : Int32) (u : Nat) (hl0 : l.stackTraces = false) (hFu : F u) (hFl : ∀ q, F q → gLo g ≤ q) : Cw l g yX0_isCounted cX0_isCounted 4 (some .int) [(0, 16, 19, 21)] 11 1 6 [.ref o, .int i, .ref u] (fun H => SkR g F S n st ln hf hs o H ∧ ∃ f, Al g u 1 f H) (WP g F o u (s_one S n i (fun i => bI (cB (S.1 0) i)))) := by
  refine Cw.of (by decide) (Nat.le_of_ble_eq_true rfl) ?_
  intro p e s m args below meth c X hT hP ls hl
  have hx := X.1
  have hb := X.2.1
  have hKV := X.2.2.2.2.2.2.2.1.1
  have hNC : NC s := hKV.2.2.2.2.2.2.2.2.2.2.2.2.2.2
  have hL : ∀ q ∈ ([] : List Loc), gLo g ≤ q.base := fun _ h => by cases h
  obtain ⟨hsk, f, hu⟩ := hP
  have he : ((s_one S n i (fun i => bI (cB (S.1 0) i)))).2.2 = S := by unfold s_one; (repeat' split) <;> rfl
  have hn2 : ¬ ((s_one S n i (fun i => bI (cB (S.1 0) i)))).1 = 2 := by unfold s_one; (try dsimp only); (repeat' split) <;> first | exact fun h => absurd (show (1 : Nat) = 2 from h) (by decide) | exact fun h => absurd (show (0 : Nat) = 2 from h) (by decide)
  have hl : lv_has ls 4 [(0, .ref o), (1, .int i), (2, .ref u)] := hl
  refine lv_aload_n hx hb dX0_isCounted_0 rfl (lv_at hl 2 rfl) ?_
  refine lv_iconst (v := nI 0) hx hb dX0_isCounted_1 (by decide) ?_
  refine lv_aload_n hx hb dX0_isCounted_2 rfl (lv_at hl 0 rfl) ?_
  refine lv_iload_n hx hb dX0_isCounted_3 rfl (lv_at hl 1 rfl) ?_
  refine Ce.runV (ct_X1_isCounted l g F S n st ln hf hs o i hl0) X hL hl vb_X1_isCounted q1594 (hsk.recv hKV) rfl rfl (Nat.le_of_ble_eq_true rfl) dX0_isCounted_4 ⟨Nat.le_of_ble_eq_true rfl, Nat.le_of_ble_eq_true rfl⟩ (by omega) (by omega) hsk (fun E ce q0 H locs hL hpx hce hcv hcl => ?_) (fun r H locs hL hp => ?_)
  · obtain ⟨hE, hXE⟩ := hpx
    have hX : SkX g F ((s_one S n i (fun i => bI (cB (S.1 0) i)))).2.2 o H := by rw [he]; exact (hsk.ext hXE).x
    have hC : Chg (fun q => ¬ F q) s.heap H := hXE.chg
    have hu := hu.chg hC (fun y => y hFu)
    rcases hE with ⟨rfl, hk⟩ | ⟨rfl, hk⟩
    ·
      refine r_catch1 X hT rfl (by decide) q1368 q1043 hce hcv hcl ?_
      refine lv_astore_n (lv' := [(3, .ref _), (0, .ref _), (1, .int _), (2, .ref _)]) hx hb dX0_isCounted_19 rfl hl (by decide) rfl (fun ls hl => ?_)
      refine lv_iconst (v := nI 1) hx hb dX0_isCounted_20 (by decide) ?_
      exact vx_ret (r_iret X hL rfl rfl dX0_isCounted_21 (by omega) (by omega) (WP.cx hk (by decide) hX hC hu))
    ·
      exact absurd hk hn2
  · obtain ⟨h0, hr, hXE⟩ := hp
    have hX : SkX g F ((s_one S n i (fun i => bI (cB (S.1 0) i)))).2.2 o H := by rw [he]; exact (hsk.ext hXE).x
    have hC : Chg (fun q => ¬ F q) s.heap H := hXE.chg
    have hu := hu.chg hC (fun y => y hFu)
    obtain ⟨b0, hv⟩ : ∃ b9, ((s_one S n i (fun i => bI (cB (S.1 0) i)))).2.1 = some (.int (bI b9)) := by unfold s_one; split <;> first | exact ⟨false, rfl⟩ | exact ⟨_, rfl⟩
    rw [hv] at hr
    subst hr
    refine b_ifeq (tgt := 14) X dX0_isCounted_7 (by decide) (fun c_7 => ?_) (fun c_7 => ?_)
    ·
      refine lv_lconst (v := 0) hx hb dX0_isCounted_14 (by decide) ?_
      refine r_lst X hL hu (hFl _ hFu) 0 rfl (by decide) (by decide) dX0_isCounted_15 (fun H locs hL h1 h2 => ?_)
      refine lv_goto (tgt := 22) hx hb dX0_isCounted_16 (by decide) ?_
      refine lv_iconst (v := nI 0) hx hb dX0_isCounted_22 (by decide) ?_
      exact vx_ret (r_iret X hL rfl rfl dX0_isCounted_23 (by omega) (by omega) (WP.c0 h0 hv (by rw [c_7]; rfl) hX hC h1 h2 hFu hKV.gE hFl))
    ·
      refine lv_lconst (v := 1) hx hb dX0_isCounted_10 (by decide) ?_
      refine lv_goto (tgt := 15) hx hb dX0_isCounted_11 (by decide) ?_
      refine r_lst X hL hu (hFl _ hFu) 0 rfl (by decide) (by decide) dX0_isCounted_15 (fun H locs hL h1 h2 => ?_)
      refine lv_goto (tgt := 22) hx hb dX0_isCounted_16 (by decide) ?_
      refine lv_iconst (v := nI 0) hx hb dX0_isCounted_22 (by decide) ?_
      exact vx_ret (r_iret X hL rfl rfl dX0_isCounted_23 (by omega) (by omega) (WP.c0 h0 hv (by rw [c_7]; rfl) hX hC h1 h2 hFu hKV.gE hFl))
theorem sw_X0_isCounted : SBW yX0_isCounted cX0_isCounted 4 (some .int) [(0, 16, 19, 21)] 3 := ⟨q1592, q98, q1593, ⟨by decide, by decide, by decide +kernel⟩⟩

set_option maxRecDepth 100000 in
set_option maxHeartbeats 4000000 in
theorem ct_X0_beats (l : Launch) (g : GT) (F : Nat → Prop) (S : MS) (n st ln : Nat) (hf hs : Bool) (o : Nat) (i j : Int32) (u : Nat) (hl0 : l.stackTraces = false) (hFu : F u) (hFl : ∀ q, F q → gLo g ≤ q) : Cw l g yX0_beats cX0_beats 5 (some .int) [(0, 17, 20, 21)] 11 2 12 [.ref o, .int i, .int j, .ref u] (fun H => SkR g F S n st ln hf hs o H ∧ ∃ f, Al g u 1 f H) (WP g F o u (s_two S n i j (fun i j => bI (beatB (S.1 0) i j)))) := by
  refine Cw.of (by decide) (Nat.le_of_ble_eq_true rfl) ?_
  intro p e s m args below meth c X hT hP ls hl
  have hx := X.1
  have hb := X.2.1
  have hKV := X.2.2.2.2.2.2.2.1.1
  have hNC : NC s := hKV.2.2.2.2.2.2.2.2.2.2.2.2.2.2
  have hL : ∀ q ∈ ([] : List Loc), gLo g ≤ q.base := fun _ h => by cases h
  obtain ⟨hsk, f, hu⟩ := hP
  have he : ((s_two S n i j (fun i j => bI (beatB (S.1 0) i j)))).2.2 = S := by unfold s_two; (repeat' split) <;> rfl
  have hn2 : ¬ ((s_two S n i j (fun i j => bI (beatB (S.1 0) i j)))).1 = 2 := by unfold s_two; (try dsimp only); (repeat' split) <;> first | exact fun h => absurd (show (1 : Nat) = 2 from h) (by decide) | exact fun h => absurd (show (0 : Nat) = 2 from h) (by decide)
  have hl : lv_has ls 5 [(0, .ref o), (1, .int i), (2, .int j), (3, .ref u)] := hl
  refine lv_aload_n hx hb dX0_beats_0 rfl (lv_at hl 3 rfl) ?_
  refine lv_iconst (v := nI 0) hx hb dX0_beats_1 (by decide) ?_
  refine lv_aload_n hx hb dX0_beats_2 rfl (lv_at hl 0 rfl) ?_
  refine lv_iload_n hx hb dX0_beats_3 rfl (lv_at hl 1 rfl) ?_
  refine lv_iload_n hx hb dX0_beats_4 rfl (lv_at hl 2 rfl) ?_
  refine Ce.runV (ct_X1_beats l g F S n st ln hf hs o i j hl0) X hL hl vb_X1_beats q1601 (hsk.recv hKV) rfl rfl (Nat.le_of_ble_eq_true rfl) dX0_beats_5 ⟨Nat.le_of_ble_eq_true rfl, Nat.le_of_ble_eq_true rfl⟩ (by omega) (by omega) hsk (fun E ce q0 H locs hL hpx hce hcv hcl => ?_) (fun r H locs hL hp => ?_)
  · obtain ⟨hE, hXE⟩ := hpx
    have hX : SkX g F ((s_two S n i j (fun i j => bI (beatB (S.1 0) i j)))).2.2 o H := by rw [he]; exact (hsk.ext hXE).x
    have hC : Chg (fun q => ¬ F q) s.heap H := hXE.chg
    have hu := hu.chg hC (fun y => y hFu)
    rcases hE with ⟨rfl, hk⟩ | ⟨rfl, hk⟩
    ·
      refine r_catch1 X hT rfl (by decide) q1368 q1043 hce hcv hcl ?_
      refine lv_astore (lv' := [(4, .ref _), (0, .ref _), (1, .int _), (2, .int _), (3, .ref _)]) hx hb dX0_beats_20 hl (by decide) rfl (fun ls hl => ?_)
      refine lv_iconst (v := nI 1) hx hb dX0_beats_22 (by decide) ?_
      exact vx_ret (r_iret X hL rfl rfl dX0_beats_23 (by omega) (by omega) (WP.cx hk (by decide) hX hC hu))
    ·
      exact absurd hk hn2
  · obtain ⟨h0, hr, hXE⟩ := hp
    have hX : SkX g F ((s_two S n i j (fun i j => bI (beatB (S.1 0) i j)))).2.2 o H := by rw [he]; exact (hsk.ext hXE).x
    have hC : Chg (fun q => ¬ F q) s.heap H := hXE.chg
    have hu := hu.chg hC (fun y => y hFu)
    obtain ⟨b0, hv⟩ : ∃ b9, ((s_two S n i j (fun i j => bI (beatB (S.1 0) i j)))).2.1 = some (.int (bI b9)) := by unfold s_two; split <;> first | exact ⟨false, rfl⟩ | exact ⟨_, rfl⟩
    rw [hv] at hr
    subst hr
    refine b_ifeq (tgt := 15) X dX0_beats_8 (by decide) (fun c_8 => ?_) (fun c_8 => ?_)
    ·
      refine lv_lconst (v := 0) hx hb dX0_beats_15 (by decide) ?_
      refine r_lst X hL hu (hFl _ hFu) 0 rfl (by decide) (by decide) dX0_beats_16 (fun H locs hL h1 h2 => ?_)
      refine lv_goto (tgt := 24) hx hb dX0_beats_17 (by decide) ?_
      refine lv_iconst (v := nI 0) hx hb dX0_beats_24 (by decide) ?_
      exact vx_ret (r_iret X hL rfl rfl dX0_beats_25 (by omega) (by omega) (WP.c0 h0 hv (by rw [c_8]; rfl) hX hC h1 h2 hFu hKV.gE hFl))
    ·
      refine lv_lconst (v := 1) hx hb dX0_beats_11 (by decide) ?_
      refine lv_goto (tgt := 16) hx hb dX0_beats_12 (by decide) ?_
      refine r_lst X hL hu (hFl _ hFu) 0 rfl (by decide) (by decide) dX0_beats_16 (fun H locs hL h1 h2 => ?_)
      refine lv_goto (tgt := 24) hx hb dX0_beats_17 (by decide) ?_
      refine lv_iconst (v := nI 0) hx hb dX0_beats_24 (by decide) ?_
      exact vx_ret (r_iret X hL rfl rfl dX0_beats_25 (by omega) (by omega) (WP.c0 h0 hv (by rw [c_8]; rfl) hX hC h1 h2 hFu hKV.gE hFl))
theorem sw_X0_beats : SBW yX0_beats cX0_beats 5 (some .int) [(0, 17, 20, 21)] 4 := ⟨q1599, q98, q1600, ⟨by decide, by decide, by decide +kernel⟩⟩

set_option maxRecDepth 100000 in
set_option maxHeartbeats 4000000 in
theorem ct_X0_betterOn (l : Launch) (g : GT) (F : Nat → Prop) (S : MS) (n st ln : Nat) (hf hs : Bool) (o : Nat) (i j : Int32) (u : Nat) (hl0 : l.stackTraces = false) (hFu : F u) (hFl : ∀ q, F q → gLo g ≤ q) : Cw l g yX0_betterOn cX0_betterOn 5 (some .int) [(0, 10, 13, 21)] 11 2 12 [.ref o, .int i, .int j, .ref u] (fun H => SkR g F S n st ln hf hs o H ∧ ∃ f, Al g u 1 f H) (WP g F o u (s_two S n i j (fun i j => nI (betN (mw (S.1 0)) (mv (S.1 0) i) (mv (S.1 0) j) (hasB (matI (mw (S.1 0)))))))) := by
  refine Cw.of (by decide) (Nat.le_of_ble_eq_true rfl) ?_
  intro p e s m args below meth c X hT hP ls hl
  have hx := X.1
  have hb := X.2.1
  have hKV := X.2.2.2.2.2.2.2.1.1
  have hNC : NC s := hKV.2.2.2.2.2.2.2.2.2.2.2.2.2.2
  have hL : ∀ q ∈ ([] : List Loc), gLo g ≤ q.base := fun _ h => by cases h
  obtain ⟨hsk, f, hu⟩ := hP
  have he : ((s_two S n i j (fun i j => nI (betN (mw (S.1 0)) (mv (S.1 0) i) (mv (S.1 0) j) (hasB (matI (mw (S.1 0)))))))).2.2 = S := by unfold s_two; (repeat' split) <;> rfl
  have hn2 : ¬ ((s_two S n i j (fun i j => nI (betN (mw (S.1 0)) (mv (S.1 0) i) (mv (S.1 0) j) (hasB (matI (mw (S.1 0)))))))).1 = 2 := by unfold s_two; (try dsimp only); (repeat' split) <;> first | exact fun h => absurd (show (1 : Nat) = 2 from h) (by decide) | exact fun h => absurd (show (0 : Nat) = 2 from h) (by decide)
  have hl : lv_has ls 5 [(0, .ref o), (1, .int i), (2, .int j), (3, .ref u)] := hl
  refine lv_aload_n hx hb dX0_betterOn_0 rfl (lv_at hl 3 rfl) ?_
  refine lv_iconst (v := nI 0) hx hb dX0_betterOn_1 (by decide) ?_
  refine lv_aload_n hx hb dX0_betterOn_2 rfl (lv_at hl 0 rfl) ?_
  refine lv_iload_n hx hb dX0_betterOn_3 rfl (lv_at hl 1 rfl) ?_
  refine lv_iload_n hx hb dX0_betterOn_4 rfl (lv_at hl 2 rfl) ?_
  refine Ce.runV (ct_X1_betterOn l g F S n st ln hf hs o i j hl0) X hL hl vb_X1_betterOn q1609 (hsk.recv hKV) rfl rfl (Nat.le_of_ble_eq_true rfl) dX0_betterOn_5 ⟨Nat.le_of_ble_eq_true rfl, Nat.le_of_ble_eq_true rfl⟩ (by omega) (by omega) hsk (fun E ce q0 H locs hL hpx hce hcv hcl => ?_) (fun r H locs hL hp => ?_)
  · obtain ⟨hE, hXE⟩ := hpx
    have hX : SkX g F ((s_two S n i j (fun i j => nI (betN (mw (S.1 0)) (mv (S.1 0) i) (mv (S.1 0) j) (hasB (matI (mw (S.1 0)))))))).2.2 o H := by rw [he]; exact (hsk.ext hXE).x
    have hC : Chg (fun q => ¬ F q) s.heap H := hXE.chg
    have hu := hu.chg hC (fun y => y hFu)
    rcases hE with ⟨rfl, hk⟩ | ⟨rfl, hk⟩
    ·
      refine r_catch1 X hT rfl (by decide) q1368 q1043 hce hcv hcl ?_
      refine lv_astore (lv' := [(4, .ref _), (0, .ref _), (1, .int _), (2, .int _), (3, .ref _)]) hx hb dX0_betterOn_13 hl (by decide) rfl (fun ls hl => ?_)
      refine lv_iconst (v := nI 1) hx hb dX0_betterOn_15 (by decide) ?_
      exact vx_ret (r_iret X hL rfl rfl dX0_betterOn_16 (by omega) (by omega) (WP.cx hk (by decide) hX hC hu))
    ·
      exact absurd hk hn2
  · obtain ⟨h0, hr, hXE⟩ := hp
    have hX : SkX g F ((s_two S n i j (fun i j => nI (betN (mw (S.1 0)) (mv (S.1 0) i) (mv (S.1 0) j) (hasB (matI (mw (S.1 0)))))))).2.2 o H := by rw [he]; exact (hsk.ext hXE).x
    have hC : Chg (fun q => ¬ F q) s.heap H := hXE.chg
    have hu := hu.chg hC (fun y => y hFu)
    obtain ⟨v0, hv⟩ : ∃ v9, ((s_two S n i j (fun i j => nI (betN (mw (S.1 0)) (mv (S.1 0) i) (mv (S.1 0) j) (hasB (matI (mw (S.1 0)))))))).2.1 = some (.int v9) := by unfold s_two; (repeat' split) <;> exact ⟨_, rfl⟩
    rw [hv] at hr
    subst hr
    refine lv_i2l hx hb dX0_betterOn_8 rfl ?_
    refine r_lst X hL hu (hFl _ hFu) 0 rfl (by decide) (by decide) dX0_betterOn_9 (fun H locs hL h1 h2 => ?_)
    refine lv_goto (tgt := 17) hx hb dX0_betterOn_10 (by decide) ?_
    refine lv_iconst (v := nI 0) hx hb dX0_betterOn_17 (by decide) ?_
    exact vx_ret (r_iret X hL rfl rfl dX0_betterOn_18 (by omega) (by omega) (WP.c0 h0 hv rfl hX hC h1 h2 hFu hKV.gE hFl))
theorem sw_X0_betterOn : SBW yX0_betterOn cX0_betterOn 5 (some .int) [(0, 10, 13, 21)] 4 := ⟨q1607, q98, q1608, ⟨by decide, by decide, by decide +kernel⟩⟩

set_option maxRecDepth 100000 in
set_option maxHeartbeats 4000000 in
theorem ct_X0_beatersOf (l : Launch) (g : GT) (F : Nat → Prop) (S : MS) (n st ln : Nat) (hf hs : Bool) (o : Nat) (i : Int32) (u : Nat) (hl0 : l.stackTraces = false) (hFu : F u) (hFl : ∀ q, F q → gLo g ≤ q) : Cw l g yX0_beatersOf cX0_beatersOf 4 (some .int) [(0, 9, 12, 21)] 15 2 8 [.ref o, .int i, .ref u] (fun H => SkR g F S n st ln hf hs o H ∧ ∃ f, Al g u 1 f H) (WP g F o u (s_one S n i (fun i => nI (cnt (fun j => beatB (S.1 0) j i) n)))) := by
  refine Cw.of (by decide) (Nat.le_of_ble_eq_true rfl) ?_
  intro p e s m args below meth c X hT hP ls hl
  have hx := X.1
  have hb := X.2.1
  have hKV := X.2.2.2.2.2.2.2.1.1
  have hNC : NC s := hKV.2.2.2.2.2.2.2.2.2.2.2.2.2.2
  have hL : ∀ q ∈ ([] : List Loc), gLo g ≤ q.base := fun _ h => by cases h
  obtain ⟨hsk, f, hu⟩ := hP
  have he : ((s_one S n i (fun i => nI (cnt (fun j => beatB (S.1 0) j i) n)))).2.2 = S := by unfold s_one; (repeat' split) <;> rfl
  have hn2 : ¬ ((s_one S n i (fun i => nI (cnt (fun j => beatB (S.1 0) j i) n)))).1 = 2 := by unfold s_one; (try dsimp only); (repeat' split) <;> first | exact fun h => absurd (show (1 : Nat) = 2 from h) (by decide) | exact fun h => absurd (show (0 : Nat) = 2 from h) (by decide)
  have hl : lv_has ls 4 [(0, .ref o), (1, .int i), (2, .ref u)] := hl
  refine lv_aload_n hx hb dX0_beatersOf_0 rfl (lv_at hl 2 rfl) ?_
  refine lv_iconst (v := nI 0) hx hb dX0_beatersOf_1 (by decide) ?_
  refine lv_aload_n hx hb dX0_beatersOf_2 rfl (lv_at hl 0 rfl) ?_
  refine lv_iload_n hx hb dX0_beatersOf_3 rfl (lv_at hl 1 rfl) ?_
  refine Ce.runV (ct_X1_beatersOf l g F S n st ln hf hs o i hl0) X hL hl vb_X1_beatersOf q1617 (hsk.recv hKV) rfl rfl (Nat.le_of_ble_eq_true rfl) dX0_beatersOf_4 ⟨Nat.le_of_ble_eq_true rfl, Nat.le_of_ble_eq_true rfl⟩ (by omega) (by omega) hsk (fun E ce q0 H locs hL hpx hce hcv hcl => ?_) (fun r H locs hL hp => ?_)
  · obtain ⟨hE, hXE⟩ := hpx
    have hX : SkX g F ((s_one S n i (fun i => nI (cnt (fun j => beatB (S.1 0) j i) n)))).2.2 o H := by rw [he]; exact (hsk.ext hXE).x
    have hC : Chg (fun q => ¬ F q) s.heap H := hXE.chg
    have hu := hu.chg hC (fun y => y hFu)
    rcases hE with ⟨rfl, hk⟩ | ⟨rfl, hk⟩
    ·
      refine r_catch1 X hT rfl (by decide) q1368 q1043 hce hcv hcl ?_
      refine lv_astore_n (lv' := [(3, .ref _), (0, .ref _), (1, .int _), (2, .ref _)]) hx hb dX0_beatersOf_12 rfl hl (by decide) rfl (fun ls hl => ?_)
      refine lv_iconst (v := nI 1) hx hb dX0_beatersOf_13 (by decide) ?_
      exact vx_ret (r_iret X hL rfl rfl dX0_beatersOf_14 (by omega) (by omega) (WP.cx hk (by decide) hX hC hu))
    ·
      exact absurd hk hn2
  · obtain ⟨h0, hr, hXE⟩ := hp
    have hX : SkX g F ((s_one S n i (fun i => nI (cnt (fun j => beatB (S.1 0) j i) n)))).2.2 o H := by rw [he]; exact (hsk.ext hXE).x
    have hC : Chg (fun q => ¬ F q) s.heap H := hXE.chg
    have hu := hu.chg hC (fun y => y hFu)
    obtain ⟨v0, hv⟩ : ∃ v9, ((s_one S n i (fun i => nI (cnt (fun j => beatB (S.1 0) j i) n)))).2.1 = some (.int v9) := by unfold s_one; (repeat' split) <;> exact ⟨_, rfl⟩
    rw [hv] at hr
    subst hr
    refine lv_i2l hx hb dX0_beatersOf_7 rfl ?_
    refine r_lst X hL hu (hFl _ hFu) 0 rfl (by decide) (by decide) dX0_beatersOf_8 (fun H locs hL h1 h2 => ?_)
    refine lv_goto (tgt := 15) hx hb dX0_beatersOf_9 (by decide) ?_
    refine lv_iconst (v := nI 0) hx hb dX0_beatersOf_15 (by decide) ?_
    exact vx_ret (r_iret X hL rfl rfl dX0_beatersOf_16 (by omega) (by omega) (WP.c0 h0 hv rfl hX hC h1 h2 hFu hKV.gE hFl))
theorem sw_X0_beatersOf : SBW yX0_beatersOf cX0_beatersOf 4 (some .int) [(0, 9, 12, 21)] 3 := ⟨q1615, q98, q1616, ⟨by decide, by decide, by decide +kernel⟩⟩

set_option maxRecDepth 100000 in
set_option maxHeartbeats 4000000 in
theorem ct_X0_beatenBy (l : Launch) (g : GT) (F : Nat → Prop) (S : MS) (n st ln : Nat) (hf hs : Bool) (o : Nat) (i : Int32) (u : Nat) (hl0 : l.stackTraces = false) (hFu : F u) (hFl : ∀ q, F q → gLo g ≤ q) : Cw l g yX0_beatenBy cX0_beatenBy 4 (some .int) [(0, 9, 12, 21)] 15 2 8 [.ref o, .int i, .ref u] (fun H => SkR g F S n st ln hf hs o H ∧ ∃ f, Al g u 1 f H) (WP g F o u (s_one S n i (fun i => nI (cnt (beatB (S.1 0) i) n)))) := by
  refine Cw.of (by decide) (Nat.le_of_ble_eq_true rfl) ?_
  intro p e s m args below meth c X hT hP ls hl
  have hx := X.1
  have hb := X.2.1
  have hKV := X.2.2.2.2.2.2.2.1.1
  have hNC : NC s := hKV.2.2.2.2.2.2.2.2.2.2.2.2.2.2
  have hL : ∀ q ∈ ([] : List Loc), gLo g ≤ q.base := fun _ h => by cases h
  obtain ⟨hsk, f, hu⟩ := hP
  have he : ((s_one S n i (fun i => nI (cnt (beatB (S.1 0) i) n)))).2.2 = S := by unfold s_one; (repeat' split) <;> rfl
  have hn2 : ¬ ((s_one S n i (fun i => nI (cnt (beatB (S.1 0) i) n)))).1 = 2 := by unfold s_one; (try dsimp only); (repeat' split) <;> first | exact fun h => absurd (show (1 : Nat) = 2 from h) (by decide) | exact fun h => absurd (show (0 : Nat) = 2 from h) (by decide)
  have hl : lv_has ls 4 [(0, .ref o), (1, .int i), (2, .ref u)] := hl
  refine lv_aload_n hx hb dX0_beatenBy_0 rfl (lv_at hl 2 rfl) ?_
  refine lv_iconst (v := nI 0) hx hb dX0_beatenBy_1 (by decide) ?_
  refine lv_aload_n hx hb dX0_beatenBy_2 rfl (lv_at hl 0 rfl) ?_
  refine lv_iload_n hx hb dX0_beatenBy_3 rfl (lv_at hl 1 rfl) ?_
  refine Ce.runV (ct_X1_beatenBy l g F S n st ln hf hs o i hl0) X hL hl vb_X1_beatenBy q1624 (hsk.recv hKV) rfl rfl (Nat.le_of_ble_eq_true rfl) dX0_beatenBy_4 ⟨Nat.le_of_ble_eq_true rfl, Nat.le_of_ble_eq_true rfl⟩ (by omega) (by omega) hsk (fun E ce q0 H locs hL hpx hce hcv hcl => ?_) (fun r H locs hL hp => ?_)
  · obtain ⟨hE, hXE⟩ := hpx
    have hX : SkX g F ((s_one S n i (fun i => nI (cnt (beatB (S.1 0) i) n)))).2.2 o H := by rw [he]; exact (hsk.ext hXE).x
    have hC : Chg (fun q => ¬ F q) s.heap H := hXE.chg
    have hu := hu.chg hC (fun y => y hFu)
    rcases hE with ⟨rfl, hk⟩ | ⟨rfl, hk⟩
    ·
      refine r_catch1 X hT rfl (by decide) q1368 q1043 hce hcv hcl ?_
      refine lv_astore_n (lv' := [(3, .ref _), (0, .ref _), (1, .int _), (2, .ref _)]) hx hb dX0_beatenBy_12 rfl hl (by decide) rfl (fun ls hl => ?_)
      refine lv_iconst (v := nI 1) hx hb dX0_beatenBy_13 (by decide) ?_
      exact vx_ret (r_iret X hL rfl rfl dX0_beatenBy_14 (by omega) (by omega) (WP.cx hk (by decide) hX hC hu))
    ·
      exact absurd hk hn2
  · obtain ⟨h0, hr, hXE⟩ := hp
    have hX : SkX g F ((s_one S n i (fun i => nI (cnt (beatB (S.1 0) i) n)))).2.2 o H := by rw [he]; exact (hsk.ext hXE).x
    have hC : Chg (fun q => ¬ F q) s.heap H := hXE.chg
    have hu := hu.chg hC (fun y => y hFu)
    obtain ⟨v0, hv⟩ : ∃ v9, ((s_one S n i (fun i => nI (cnt (beatB (S.1 0) i) n)))).2.1 = some (.int v9) := by unfold s_one; (repeat' split) <;> exact ⟨_, rfl⟩
    rw [hv] at hr
    subst hr
    refine lv_i2l hx hb dX0_beatenBy_7 rfl ?_
    refine r_lst X hL hu (hFl _ hFu) 0 rfl (by decide) (by decide) dX0_beatenBy_8 (fun H locs hL h1 h2 => ?_)
    refine lv_goto (tgt := 15) hx hb dX0_beatenBy_9 (by decide) ?_
    refine lv_iconst (v := nI 0) hx hb dX0_beatenBy_15 (by decide) ?_
    exact vx_ret (r_iret X hL rfl rfl dX0_beatenBy_16 (by omega) (by omega) (WP.c0 h0 hv rfl hX hC h1 h2 hFu hKV.gE hFl))
theorem sw_X0_beatenBy : SBW yX0_beatenBy cX0_beatenBy 4 (some .int) [(0, 9, 12, 21)] 3 := ⟨q1622, q98, q1623, ⟨by decide, by decide, by decide +kernel⟩⟩

set_option maxRecDepth 100000 in
set_option maxHeartbeats 4000000 in
theorem ct_X0_isToldByPairs (l : Launch) (g : GT) (F : Nat → Prop) (S : MS) (n st ln : Nat) (hf hs : Bool) (o : Nat) (i : Int32) (u : Nat) (hl0 : l.stackTraces = false) (hFu : F u) (hFl : ∀ q, F q → gLo g ≤ q) : Cw l g yX0_isToldByPairs cX0_isToldByPairs 4 (some .int) [(0, 16, 19, 21)] 16 2 8 [.ref o, .int i, .ref u] (fun H => SkR g F S n st ln hf hs o H ∧ ∃ f, Al g u 1 f H) (WP g F o u (s_one S n i (fun i => bI (isTB (S.1 0) n i)))) := by
  refine Cw.of (by decide) (Nat.le_of_ble_eq_true rfl) ?_
  intro p e s m args below meth c X hT hP ls hl
  have hx := X.1
  have hb := X.2.1
  have hKV := X.2.2.2.2.2.2.2.1.1
  have hNC : NC s := hKV.2.2.2.2.2.2.2.2.2.2.2.2.2.2
  have hL : ∀ q ∈ ([] : List Loc), gLo g ≤ q.base := fun _ h => by cases h
  obtain ⟨hsk, f, hu⟩ := hP
  have he : ((s_one S n i (fun i => bI (isTB (S.1 0) n i)))).2.2 = S := by unfold s_one; (repeat' split) <;> rfl
  have hn2 : ¬ ((s_one S n i (fun i => bI (isTB (S.1 0) n i)))).1 = 2 := by unfold s_one; (try dsimp only); (repeat' split) <;> first | exact fun h => absurd (show (1 : Nat) = 2 from h) (by decide) | exact fun h => absurd (show (0 : Nat) = 2 from h) (by decide)
  have hl : lv_has ls 4 [(0, .ref o), (1, .int i), (2, .ref u)] := hl
  refine lv_aload_n hx hb dX0_isToldByPairs_0 rfl (lv_at hl 2 rfl) ?_
  refine lv_iconst (v := nI 0) hx hb dX0_isToldByPairs_1 (by decide) ?_
  refine lv_aload_n hx hb dX0_isToldByPairs_2 rfl (lv_at hl 0 rfl) ?_
  refine lv_iload_n hx hb dX0_isToldByPairs_3 rfl (lv_at hl 1 rfl) ?_
  refine Ce.runV (ct_X1_isToldByPairs l g F S n st ln hf hs o i hl0) X hL hl vb_X1_isToldByPairs q1631 (hsk.recv hKV) rfl rfl (Nat.le_of_ble_eq_true rfl) dX0_isToldByPairs_4 ⟨Nat.le_of_ble_eq_true rfl, Nat.le_of_ble_eq_true rfl⟩ (by omega) (by omega) hsk (fun E ce q0 H locs hL hpx hce hcv hcl => ?_) (fun r H locs hL hp => ?_)
  · obtain ⟨hE, hXE⟩ := hpx
    have hX : SkX g F ((s_one S n i (fun i => bI (isTB (S.1 0) n i)))).2.2 o H := by rw [he]; exact (hsk.ext hXE).x
    have hC : Chg (fun q => ¬ F q) s.heap H := hXE.chg
    have hu := hu.chg hC (fun y => y hFu)
    rcases hE with ⟨rfl, hk⟩ | ⟨rfl, hk⟩
    ·
      refine r_catch1 X hT rfl (by decide) q1368 q1043 hce hcv hcl ?_
      refine lv_astore_n (lv' := [(3, .ref _), (0, .ref _), (1, .int _), (2, .ref _)]) hx hb dX0_isToldByPairs_19 rfl hl (by decide) rfl (fun ls hl => ?_)
      refine lv_iconst (v := nI 1) hx hb dX0_isToldByPairs_20 (by decide) ?_
      exact vx_ret (r_iret X hL rfl rfl dX0_isToldByPairs_21 (by omega) (by omega) (WP.cx hk (by decide) hX hC hu))
    ·
      exact absurd hk hn2
  · obtain ⟨h0, hr, hXE⟩ := hp
    have hX : SkX g F ((s_one S n i (fun i => bI (isTB (S.1 0) n i)))).2.2 o H := by rw [he]; exact (hsk.ext hXE).x
    have hC : Chg (fun q => ¬ F q) s.heap H := hXE.chg
    have hu := hu.chg hC (fun y => y hFu)
    obtain ⟨b0, hv⟩ : ∃ b9, ((s_one S n i (fun i => bI (isTB (S.1 0) n i)))).2.1 = some (.int (bI b9)) := by unfold s_one; split <;> first | exact ⟨false, rfl⟩ | exact ⟨_, rfl⟩
    rw [hv] at hr
    subst hr
    refine b_ifeq (tgt := 14) X dX0_isToldByPairs_7 (by decide) (fun c_7 => ?_) (fun c_7 => ?_)
    ·
      refine lv_lconst (v := 0) hx hb dX0_isToldByPairs_14 (by decide) ?_
      refine r_lst X hL hu (hFl _ hFu) 0 rfl (by decide) (by decide) dX0_isToldByPairs_15 (fun H locs hL h1 h2 => ?_)
      refine lv_goto (tgt := 22) hx hb dX0_isToldByPairs_16 (by decide) ?_
      refine lv_iconst (v := nI 0) hx hb dX0_isToldByPairs_22 (by decide) ?_
      exact vx_ret (r_iret X hL rfl rfl dX0_isToldByPairs_23 (by omega) (by omega) (WP.c0 h0 hv (by rw [c_7]; rfl) hX hC h1 h2 hFu hKV.gE hFl))
    ·
      refine lv_lconst (v := 1) hx hb dX0_isToldByPairs_10 (by decide) ?_
      refine lv_goto (tgt := 15) hx hb dX0_isToldByPairs_11 (by decide) ?_
      refine r_lst X hL hu (hFl _ hFu) 0 rfl (by decide) (by decide) dX0_isToldByPairs_15 (fun H locs hL h1 h2 => ?_)
      refine lv_goto (tgt := 22) hx hb dX0_isToldByPairs_16 (by decide) ?_
      refine lv_iconst (v := nI 0) hx hb dX0_isToldByPairs_22 (by decide) ?_
      exact vx_ret (r_iret X hL rfl rfl dX0_isToldByPairs_23 (by omega) (by omega) (WP.c0 h0 hv (by rw [c_7]; rfl) hX hC h1 h2 hFu hKV.gE hFl))
theorem sw_X0_isToldByPairs : SBW yX0_isToldByPairs cX0_isToldByPairs 4 (some .int) [(0, 16, 19, 21)] 3 := ⟨q1629, q98, q1630, ⟨by decide, by decide, by decide +kernel⟩⟩

set_option maxRecDepth 100000 in
set_option maxHeartbeats 4000000 in
theorem ct_X0_isToldByWindow (l : Launch) (g : GT) (F : Nat → Prop) (S : MS) (n st ln : Nat) (hf hs : Bool) (o : Nat) (i : Int32) (u : Nat) (hl0 : l.stackTraces = false) (hFu : F u) (hFl : ∀ q, F q → gLo g ≤ q) : Cw l g yX0_isToldByWindow cX0_isToldByWindow 4 (some .int) [(0, 16, 19, 21)] 17 84 4097 [.ref o, .int i, .ref u] (fun H => SkR g F S n st ln hf hs o H ∧ ∃ f, Al g u 1 f H) (WP g F o u (s_one S n i (fun i => bI (isTB (S.1 0) n i)))) := by
  refine Cw.of (by decide) (Nat.le_of_ble_eq_true rfl) ?_
  intro p e s m args below meth c X hT hP ls hl
  have hx := X.1
  have hb := X.2.1
  have hKV := X.2.2.2.2.2.2.2.1.1
  have hNC : NC s := hKV.2.2.2.2.2.2.2.2.2.2.2.2.2.2
  have hL : ∀ q ∈ ([] : List Loc), gLo g ≤ q.base := fun _ h => by cases h
  obtain ⟨hsk, f, hu⟩ := hP
  have he : ((s_one S n i (fun i => bI (isTB (S.1 0) n i)))).2.2 = S := by unfold s_one; (repeat' split) <;> rfl
  have hn2 : ¬ ((s_one S n i (fun i => bI (isTB (S.1 0) n i)))).1 = 2 := by unfold s_one; (try dsimp only); (repeat' split) <;> first | exact fun h => absurd (show (1 : Nat) = 2 from h) (by decide) | exact fun h => absurd (show (0 : Nat) = 2 from h) (by decide)
  have hl : lv_has ls 4 [(0, .ref o), (1, .int i), (2, .ref u)] := hl
  refine lv_aload_n hx hb dX0_isToldByWindow_0 rfl (lv_at hl 2 rfl) ?_
  refine lv_iconst (v := nI 0) hx hb dX0_isToldByWindow_1 (by decide) ?_
  refine lv_aload_n hx hb dX0_isToldByWindow_2 rfl (lv_at hl 0 rfl) ?_
  refine lv_iload_n hx hb dX0_isToldByWindow_3 rfl (lv_at hl 1 rfl) ?_
  refine Ce.runV (ct_X1_isToldByWindow l g F S n st ln hf hs o i hl0) X hL hl vb_X1_isToldByWindow q1638 (hsk.recv hKV) rfl rfl (Nat.le_of_ble_eq_true rfl) dX0_isToldByWindow_4 ⟨Nat.le_of_ble_eq_true rfl, Nat.le_of_ble_eq_true rfl⟩ (by omega) (by omega) hsk (fun E ce q0 H locs hL hpx hce hcv hcl => ?_) (fun r H locs hL hp => ?_)
  · obtain ⟨hE, hXE⟩ := hpx
    have hX : SkX g F ((s_one S n i (fun i => bI (isTB (S.1 0) n i)))).2.2 o H := by rw [he]; exact (hsk.ext hXE).x
    have hC : Chg (fun q => ¬ F q) s.heap H := hXE.chg
    have hu := hu.chg hC (fun y => y hFu)
    rcases hE with ⟨rfl, hk⟩ | ⟨rfl, hk⟩
    ·
      refine r_catch1 X hT rfl (by decide) q1368 q1043 hce hcv hcl ?_
      refine lv_astore_n (lv' := [(3, .ref _), (0, .ref _), (1, .int _), (2, .ref _)]) hx hb dX0_isToldByWindow_19 rfl hl (by decide) rfl (fun ls hl => ?_)
      refine lv_iconst (v := nI 1) hx hb dX0_isToldByWindow_20 (by decide) ?_
      exact vx_ret (r_iret X hL rfl rfl dX0_isToldByWindow_21 (by omega) (by omega) (WP.cx hk (by decide) hX hC hu))
    ·
      exact absurd hk hn2
  · obtain ⟨h0, hr, hXE⟩ := hp
    have hX : SkX g F ((s_one S n i (fun i => bI (isTB (S.1 0) n i)))).2.2 o H := by rw [he]; exact (hsk.ext hXE).x
    have hC : Chg (fun q => ¬ F q) s.heap H := hXE.chg
    have hu := hu.chg hC (fun y => y hFu)
    obtain ⟨b0, hv⟩ : ∃ b9, ((s_one S n i (fun i => bI (isTB (S.1 0) n i)))).2.1 = some (.int (bI b9)) := by unfold s_one; split <;> first | exact ⟨false, rfl⟩ | exact ⟨_, rfl⟩
    rw [hv] at hr
    subst hr
    refine b_ifeq (tgt := 14) X dX0_isToldByWindow_7 (by decide) (fun c_7 => ?_) (fun c_7 => ?_)
    ·
      refine lv_lconst (v := 0) hx hb dX0_isToldByWindow_14 (by decide) ?_
      refine r_lst X hL hu (hFl _ hFu) 0 rfl (by decide) (by decide) dX0_isToldByWindow_15 (fun H locs hL h1 h2 => ?_)
      refine lv_goto (tgt := 22) hx hb dX0_isToldByWindow_16 (by decide) ?_
      refine lv_iconst (v := nI 0) hx hb dX0_isToldByWindow_22 (by decide) ?_
      exact vx_ret (r_iret X hL rfl rfl dX0_isToldByWindow_23 (by omega) (by omega) (WP.c0 h0 hv (by rw [c_7]; rfl) hX hC h1 h2 hFu hKV.gE hFl))
    ·
      refine lv_lconst (v := 1) hx hb dX0_isToldByWindow_10 (by decide) ?_
      refine lv_goto (tgt := 15) hx hb dX0_isToldByWindow_11 (by decide) ?_
      refine r_lst X hL hu (hFl _ hFu) 0 rfl (by decide) (by decide) dX0_isToldByWindow_15 (fun H locs hL h1 h2 => ?_)
      refine lv_goto (tgt := 22) hx hb dX0_isToldByWindow_16 (by decide) ?_
      refine lv_iconst (v := nI 0) hx hb dX0_isToldByWindow_22 (by decide) ?_
      exact vx_ret (r_iret X hL rfl rfl dX0_isToldByWindow_23 (by omega) (by omega) (WP.c0 h0 hv (by rw [c_7]; rfl) hX hC h1 h2 hFu hKV.gE hFl))
theorem sw_X0_isToldByWindow : SBW yX0_isToldByWindow cX0_isToldByWindow 4 (some .int) [(0, 16, 19, 21)] 3 := ⟨q1636, q98, q1637, ⟨by decide, by decide, by decide +kernel⟩⟩

set_option maxRecDepth 100000 in
set_option maxHeartbeats 4000000 in
theorem ct_X0_toldAt (l : Launch) (g : GT) (F : Nat → Prop) (S : MS) (n st ln : Nat) (hf hs : Bool) (o : Nat) (i : Int32) (u : Nat) (hl0 : l.stackTraces = false) (hFu : F u) (hFl : ∀ q, F q → gLo g ≤ q) : Cw l g yX0_toldAt cX0_toldAt 4 (some .int) [(0, 9, 12, 21)] 17 19 289 [.ref o, .int i, .ref u] (fun H => SkR g F S n st ln hf hs o H ∧ ∃ f, Al g u 1 f H) (WP g F o u (s_fst S (fstI (fun k => (tellB (S.1 0) n (hasB (matI (mw (S.1 0))))) k && decide (nI (cnt (tellB (S.1 0) n (hasB (matI (mw (S.1 0))))) k) = i)) n))) := by
  refine Cw.of (by decide) (Nat.le_of_ble_eq_true rfl) ?_
  intro p e s m args below meth c X hT hP ls hl
  have hx := X.1
  have hb := X.2.1
  have hKV := X.2.2.2.2.2.2.2.1.1
  have hNC : NC s := hKV.2.2.2.2.2.2.2.2.2.2.2.2.2.2
  have hL : ∀ q ∈ ([] : List Loc), gLo g ≤ q.base := fun _ h => by cases h
  obtain ⟨hsk, f, hu⟩ := hP
  have he : ((s_fst S (fstI (fun k => (tellB (S.1 0) n (hasB (matI (mw (S.1 0))))) k && decide (nI (cnt (tellB (S.1 0) n (hasB (matI (mw (S.1 0))))) k) = i)) n))).2.2 = S := by unfold s_fst; (repeat' split) <;> rfl
  have hn2 : ¬ ((s_fst S (fstI (fun k => (tellB (S.1 0) n (hasB (matI (mw (S.1 0))))) k && decide (nI (cnt (tellB (S.1 0) n (hasB (matI (mw (S.1 0))))) k) = i)) n))).1 = 2 := by unfold s_fst; (try dsimp only); (repeat' split) <;> first | exact fun h => absurd (show (1 : Nat) = 2 from h) (by decide) | exact fun h => absurd (show (0 : Nat) = 2 from h) (by decide)
  have hl : lv_has ls 4 [(0, .ref o), (1, .int i), (2, .ref u)] := hl
  refine lv_aload_n hx hb dX0_toldAt_0 rfl (lv_at hl 2 rfl) ?_
  refine lv_iconst (v := nI 0) hx hb dX0_toldAt_1 (by decide) ?_
  refine lv_aload_n hx hb dX0_toldAt_2 rfl (lv_at hl 0 rfl) ?_
  refine lv_iload_n hx hb dX0_toldAt_3 rfl (lv_at hl 1 rfl) ?_
  refine Ce.runV (ct_X1_toldAt l g F S n st ln hf hs o i hl0) X hL hl vb_X1_toldAt q1645 (hsk.recv hKV) rfl rfl (Nat.le_of_ble_eq_true rfl) dX0_toldAt_4 ⟨Nat.le_of_ble_eq_true rfl, Nat.le_of_ble_eq_true rfl⟩ (by omega) (by omega) hsk (fun E ce q0 H locs hL hpx hce hcv hcl => ?_) (fun r H locs hL hp => ?_)
  · obtain ⟨hE, hXE⟩ := hpx
    have hX : SkX g F ((s_fst S (fstI (fun k => (tellB (S.1 0) n (hasB (matI (mw (S.1 0))))) k && decide (nI (cnt (tellB (S.1 0) n (hasB (matI (mw (S.1 0))))) k) = i)) n))).2.2 o H := by rw [he]; exact (hsk.ext hXE).x
    have hC : Chg (fun q => ¬ F q) s.heap H := hXE.chg
    have hu := hu.chg hC (fun y => y hFu)
    rcases hE with ⟨rfl, hk⟩ | ⟨rfl, hk⟩
    ·
      refine r_catch1 X hT rfl (by decide) q1368 q1043 hce hcv hcl ?_
      refine lv_astore_n (lv' := [(3, .ref _), (0, .ref _), (1, .int _), (2, .ref _)]) hx hb dX0_toldAt_12 rfl hl (by decide) rfl (fun ls hl => ?_)
      refine lv_iconst (v := nI 1) hx hb dX0_toldAt_13 (by decide) ?_
      exact vx_ret (r_iret X hL rfl rfl dX0_toldAt_14 (by omega) (by omega) (WP.cx hk (by decide) hX hC hu))
    ·
      exact absurd hk hn2
  · obtain ⟨h0, hr, hXE⟩ := hp
    have hX : SkX g F ((s_fst S (fstI (fun k => (tellB (S.1 0) n (hasB (matI (mw (S.1 0))))) k && decide (nI (cnt (tellB (S.1 0) n (hasB (matI (mw (S.1 0))))) k) = i)) n))).2.2 o H := by rw [he]; exact (hsk.ext hXE).x
    have hC : Chg (fun q => ¬ F q) s.heap H := hXE.chg
    have hu := hu.chg hC (fun y => y hFu)
    obtain ⟨v0, hv⟩ : ∃ v9, ((s_fst S (fstI (fun k => (tellB (S.1 0) n (hasB (matI (mw (S.1 0))))) k && decide (nI (cnt (tellB (S.1 0) n (hasB (matI (mw (S.1 0))))) k) = i)) n))).2.1 = some (.int v9) := by unfold s_fst; (repeat' split) <;> exact ⟨_, rfl⟩
    rw [hv] at hr
    subst hr
    refine lv_i2l hx hb dX0_toldAt_7 rfl ?_
    refine r_lst X hL hu (hFl _ hFu) 0 rfl (by decide) (by decide) dX0_toldAt_8 (fun H locs hL h1 h2 => ?_)
    refine lv_goto (tgt := 15) hx hb dX0_toldAt_9 (by decide) ?_
    refine lv_iconst (v := nI 0) hx hb dX0_toldAt_15 (by decide) ?_
    exact vx_ret (r_iret X hL rfl rfl dX0_toldAt_16 (by omega) (by omega) (WP.c0 h0 hv rfl hX hC h1 h2 hFu hKV.gE hFl))
theorem sw_X0_toldAt : SBW yX0_toldAt cX0_toldAt 4 (some .int) [(0, 9, 12, 21)] 3 := ⟨q1643, q98, q1644, ⟨by decide, by decide, by decide +kernel⟩⟩

set_option maxRecDepth 100000 in
set_option maxHeartbeats 4000000 in
theorem ct_X0_layerByPeeling (l : Launch) (g : GT) (F : Nat → Prop) (S : MS) (n st ln : Nat) (hf hs : Bool) (o : Nat) (i : Int32) (u : Nat) (hl0 : l.stackTraces = false) (hFu : F u) (hFl : ∀ q, F q → gLo g ≤ q) : Cw l g yX0_layerByPeeling cX0_layerByPeeling 4 (some .int) [(0, 9, 12, 21)] 21 2501 17006 [.ref o, .int i, .ref u] (fun H => SkR g F S n st ln hf hs o H ∧ ∃ f, Al g u 1 f H) (WP g F o u (s_one S n i (fun i => nI (LY (S.1 0) n i)))) := by
  refine Cw.of (by decide) (Nat.le_of_ble_eq_true rfl) ?_
  intro p e s m args below meth c X hT hP ls hl
  have hx := X.1
  have hb := X.2.1
  have hKV := X.2.2.2.2.2.2.2.1.1
  have hNC : NC s := hKV.2.2.2.2.2.2.2.2.2.2.2.2.2.2
  have hL : ∀ q ∈ ([] : List Loc), gLo g ≤ q.base := fun _ h => by cases h
  obtain ⟨hsk, f, hu⟩ := hP
  have he : ((s_one S n i (fun i => nI (LY (S.1 0) n i)))).2.2 = S := by unfold s_one; (repeat' split) <;> rfl
  have hn2 : ¬ ((s_one S n i (fun i => nI (LY (S.1 0) n i)))).1 = 2 := by unfold s_one; (try dsimp only); (repeat' split) <;> first | exact fun h => absurd (show (1 : Nat) = 2 from h) (by decide) | exact fun h => absurd (show (0 : Nat) = 2 from h) (by decide)
  have hl : lv_has ls 4 [(0, .ref o), (1, .int i), (2, .ref u)] := hl
  refine lv_aload_n hx hb dX0_layerByPeeling_0 rfl (lv_at hl 2 rfl) ?_
  refine lv_iconst (v := nI 0) hx hb dX0_layerByPeeling_1 (by decide) ?_
  refine lv_aload_n hx hb dX0_layerByPeeling_2 rfl (lv_at hl 0 rfl) ?_
  refine lv_iload_n hx hb dX0_layerByPeeling_3 rfl (lv_at hl 1 rfl) ?_
  refine Ce.runV (ct_X1_layerByPeeling l g F S n st ln hf hs o i hl0) X hL hl vb_X1_layerByPeeling q1652 (hsk.recv hKV) rfl rfl (Nat.le_of_ble_eq_true rfl) dX0_layerByPeeling_4 ⟨Nat.le_of_ble_eq_true rfl, Nat.le_of_ble_eq_true rfl⟩ (by omega) (by omega) hsk (fun E ce q0 H locs hL hpx hce hcv hcl => ?_) (fun r H locs hL hp => ?_)
  · obtain ⟨hE, hXE⟩ := hpx
    have hX : SkX g F ((s_one S n i (fun i => nI (LY (S.1 0) n i)))).2.2 o H := by rw [he]; exact (hsk.ext hXE).x
    have hC : Chg (fun q => ¬ F q) s.heap H := hXE.chg
    have hu := hu.chg hC (fun y => y hFu)
    rcases hE with ⟨rfl, hk⟩ | ⟨rfl, hk⟩
    ·
      refine r_catch1 X hT rfl (by decide) q1368 q1043 hce hcv hcl ?_
      refine lv_astore_n (lv' := [(3, .ref _), (0, .ref _), (1, .int _), (2, .ref _)]) hx hb dX0_layerByPeeling_12 rfl hl (by decide) rfl (fun ls hl => ?_)
      refine lv_iconst (v := nI 1) hx hb dX0_layerByPeeling_13 (by decide) ?_
      exact vx_ret (r_iret X hL rfl rfl dX0_layerByPeeling_14 (by omega) (by omega) (WP.cx hk (by decide) hX hC hu))
    ·
      exact absurd hk hn2
  · obtain ⟨h0, hr, hXE⟩ := hp
    have hX : SkX g F ((s_one S n i (fun i => nI (LY (S.1 0) n i)))).2.2 o H := by rw [he]; exact (hsk.ext hXE).x
    have hC : Chg (fun q => ¬ F q) s.heap H := hXE.chg
    have hu := hu.chg hC (fun y => y hFu)
    obtain ⟨v0, hv⟩ : ∃ v9, ((s_one S n i (fun i => nI (LY (S.1 0) n i)))).2.1 = some (.int v9) := by unfold s_one; (repeat' split) <;> exact ⟨_, rfl⟩
    rw [hv] at hr
    subst hr
    refine lv_i2l hx hb dX0_layerByPeeling_7 rfl ?_
    refine r_lst X hL hu (hFl _ hFu) 0 rfl (by decide) (by decide) dX0_layerByPeeling_8 (fun H locs hL h1 h2 => ?_)
    refine lv_goto (tgt := 15) hx hb dX0_layerByPeeling_9 (by decide) ?_
    refine lv_iconst (v := nI 0) hx hb dX0_layerByPeeling_15 (by decide) ?_
    exact vx_ret (r_iret X hL rfl rfl dX0_layerByPeeling_16 (by omega) (by omega) (WP.c0 h0 hv rfl hX hC h1 h2 hFu hKV.gE hFl))
theorem sw_X0_layerByPeeling : SBW yX0_layerByPeeling cX0_layerByPeeling 4 (some .int) [(0, 9, 12, 21)] 3 := ⟨q1650, q98, q1651, ⟨by decide, by decide, by decide +kernel⟩⟩

set_option maxRecDepth 100000 in
set_option maxHeartbeats 4000000 in
theorem ct_X0_layerByRows (l : Launch) (g : GT) (F : Nat → Prop) (S : MS) (n st ln : Nat) (hf hs : Bool) (o : Nat) (i : Int32) (u : Nat) (hl0 : l.stackTraces = false) (hFu : F u) (hFl : ∀ q, F q → gLo g ≤ q) : Cw l g yX0_layerByRows cX0_layerByRows 4 (some .int) [(0, 9, 12, 21)] 11 2 46 [.ref o, .int i, .ref u] (fun H => SkR g F S n st ln hf hs o H ∧ ∃ f, Al g u 1 f H) (WP g F o u (s_one S n i (fun i => nI (LY (S.1 0) n i)))) := by
  refine Cw.of (by decide) (Nat.le_of_ble_eq_true rfl) ?_
  intro p e s m args below meth c X hT hP ls hl
  have hx := X.1
  have hb := X.2.1
  have hKV := X.2.2.2.2.2.2.2.1.1
  have hNC : NC s := hKV.2.2.2.2.2.2.2.2.2.2.2.2.2.2
  have hL : ∀ q ∈ ([] : List Loc), gLo g ≤ q.base := fun _ h => by cases h
  obtain ⟨hsk, f, hu⟩ := hP
  have he : ((s_one S n i (fun i => nI (LY (S.1 0) n i)))).2.2 = S := by unfold s_one; (repeat' split) <;> rfl
  have hn2 : ¬ ((s_one S n i (fun i => nI (LY (S.1 0) n i)))).1 = 2 := by unfold s_one; (try dsimp only); (repeat' split) <;> first | exact fun h => absurd (show (1 : Nat) = 2 from h) (by decide) | exact fun h => absurd (show (0 : Nat) = 2 from h) (by decide)
  have hl : lv_has ls 4 [(0, .ref o), (1, .int i), (2, .ref u)] := hl
  refine lv_aload_n hx hb dX0_layerByRows_0 rfl (lv_at hl 2 rfl) ?_
  refine lv_iconst (v := nI 0) hx hb dX0_layerByRows_1 (by decide) ?_
  refine lv_aload_n hx hb dX0_layerByRows_2 rfl (lv_at hl 0 rfl) ?_
  refine lv_iload_n hx hb dX0_layerByRows_3 rfl (lv_at hl 1 rfl) ?_
  refine Ce.runV (ct_X1_layerByRows l g F S n st ln hf hs o i hl0) X hL hl vb_X1_layerByRows q1659 (hsk.recv hKV) rfl rfl (Nat.le_of_ble_eq_true rfl) dX0_layerByRows_4 ⟨Nat.le_of_ble_eq_true rfl, Nat.le_of_ble_eq_true rfl⟩ (by omega) (by omega) hsk (fun E ce q0 H locs hL hpx hce hcv hcl => ?_) (fun r H locs hL hp => ?_)
  · obtain ⟨hE, hXE⟩ := hpx
    have hX : SkX g F ((s_one S n i (fun i => nI (LY (S.1 0) n i)))).2.2 o H := by rw [he]; exact (hsk.ext hXE).x
    have hC : Chg (fun q => ¬ F q) s.heap H := hXE.chg
    have hu := hu.chg hC (fun y => y hFu)
    rcases hE with ⟨rfl, hk⟩ | ⟨rfl, hk⟩
    ·
      refine r_catch1 X hT rfl (by decide) q1368 q1043 hce hcv hcl ?_
      refine lv_astore_n (lv' := [(3, .ref _), (0, .ref _), (1, .int _), (2, .ref _)]) hx hb dX0_layerByRows_12 rfl hl (by decide) rfl (fun ls hl => ?_)
      refine lv_iconst (v := nI 1) hx hb dX0_layerByRows_13 (by decide) ?_
      exact vx_ret (r_iret X hL rfl rfl dX0_layerByRows_14 (by omega) (by omega) (WP.cx hk (by decide) hX hC hu))
    ·
      exact absurd hk hn2
  · obtain ⟨h0, hr, hXE⟩ := hp
    have hX : SkX g F ((s_one S n i (fun i => nI (LY (S.1 0) n i)))).2.2 o H := by rw [he]; exact (hsk.ext hXE).x
    have hC : Chg (fun q => ¬ F q) s.heap H := hXE.chg
    have hu := hu.chg hC (fun y => y hFu)
    obtain ⟨v0, hv⟩ : ∃ v9, ((s_one S n i (fun i => nI (LY (S.1 0) n i)))).2.1 = some (.int v9) := by unfold s_one; (repeat' split) <;> exact ⟨_, rfl⟩
    rw [hv] at hr
    subst hr
    refine lv_i2l hx hb dX0_layerByRows_7 rfl ?_
    refine r_lst X hL hu (hFl _ hFu) 0 rfl (by decide) (by decide) dX0_layerByRows_8 (fun H locs hL h1 h2 => ?_)
    refine lv_goto (tgt := 15) hx hb dX0_layerByRows_9 (by decide) ?_
    refine lv_iconst (v := nI 0) hx hb dX0_layerByRows_15 (by decide) ?_
    exact vx_ret (r_iret X hL rfl rfl dX0_layerByRows_16 (by omega) (by omega) (WP.c0 h0 hv rfl hX hC h1 h2 hFu hKV.gE hFl))
theorem sw_X0_layerByRows : SBW yX0_layerByRows cX0_layerByRows 4 (some .int) [(0, 9, 12, 21)] 3 := ⟨q1657, q98, q1658, ⟨by decide, by decide, by decide +kernel⟩⟩

set_option maxRecDepth 100000 in
set_option maxHeartbeats 4000000 in
theorem ct_X0_inLayer (l : Launch) (g : GT) (F : Nat → Prop) (S : MS) (n st ln : Nat) (hf hs : Bool) (o : Nat) (i : Int32) (u : Nat) (hl0 : l.stackTraces = false) (hFu : F u) (hFl : ∀ q, F q → gLo g ≤ q) : Cw l g yX0_inLayer cX0_inLayer 4 (some .int) [(0, 9, 12, 13)] 21 2501 17006 [.ref o, .int i, .ref u] (fun H => SkR g F S n st ln hf hs o H ∧ ∃ f, Al g u 1 f H) (WP g F o u (s_inL S n i)) := by
  refine Cw.of (by decide) (Nat.le_of_ble_eq_true rfl) ?_
  intro p e s m args below meth c X hT hP ls hl
  have hx := X.1
  have hb := X.2.1
  have hKV := X.2.2.2.2.2.2.2.1.1
  have hNC : NC s := hKV.2.2.2.2.2.2.2.2.2.2.2.2.2.2
  have hL : ∀ q ∈ ([] : List Loc), gLo g ≤ q.base := fun _ h => by cases h
  obtain ⟨hsk, f, hu⟩ := hP
  have he : ((s_inL S n i)).2.2 = S := by unfold s_inL; (repeat' split) <;> rfl
  have hn2 : ¬ ((s_inL S n i)).1 = 2 := by unfold s_inL; (try dsimp only); (repeat' split) <;> first | exact fun h => absurd (show (1 : Nat) = 2 from h) (by decide) | exact fun h => absurd (show (0 : Nat) = 2 from h) (by decide)
  have hl : lv_has ls 4 [(0, .ref o), (1, .int i), (2, .ref u)] := hl
  refine lv_aload_n hx hb dX0_inLayer_0 rfl (lv_at hl 2 rfl) ?_
  refine lv_iconst (v := nI 0) hx hb dX0_inLayer_1 (by decide) ?_
  refine lv_aload_n hx hb dX0_inLayer_2 rfl (lv_at hl 0 rfl) ?_
  refine lv_iload_n hx hb dX0_inLayer_3 rfl (lv_at hl 1 rfl) ?_
  refine Ce.runV (ct_X1_inLayer l g F S n st ln hf hs o i hl0) X hL hl vb_X1_inLayer q1666 (hsk.recv hKV) rfl rfl (Nat.le_of_ble_eq_true rfl) dX0_inLayer_4 ⟨Nat.le_of_ble_eq_true rfl, Nat.le_of_ble_eq_true rfl⟩ (by omega) (by omega) hsk (fun E ce q0 H locs hL hpx hce hcv hcl => ?_) (fun r H locs hL hp => ?_)
  · obtain ⟨hE, hXE⟩ := hpx
    have hX : SkX g F ((s_inL S n i)).2.2 o H := by rw [he]; exact (hsk.ext hXE).x
    have hC : Chg (fun q => ¬ F q) s.heap H := hXE.chg
    have hu := hu.chg hC (fun y => y hFu)
    rcases hE with ⟨rfl, hk⟩ | ⟨rfl, hk⟩
    ·
      refine r_catch1 X hT rfl (by decide) q1310 q804 hce hcv hcl ?_
      refine lv_astore_n (lv' := [(3, .ref _), (0, .ref _), (1, .int _), (2, .ref _)]) hx hb dX0_inLayer_12 rfl hl (by decide) rfl (fun ls hl => ?_)
      refine lv_iconst (v := nI 1) hx hb dX0_inLayer_13 (by decide) ?_
      exact vx_ret (r_iret X hL rfl rfl dX0_inLayer_14 (by omega) (by omega) (WP.cx hk (by decide) hX hC hu))
    ·
      exact absurd hk hn2
  · obtain ⟨h0, hr, hXE⟩ := hp
    have hX : SkX g F ((s_inL S n i)).2.2 o H := by rw [he]; exact (hsk.ext hXE).x
    have hC : Chg (fun q => ¬ F q) s.heap H := hXE.chg
    have hu := hu.chg hC (fun y => y hFu)
    obtain ⟨v0, hv⟩ : ∃ v9, ((s_inL S n i)).2.1 = some (.int v9) := by unfold s_inL; (repeat' split) <;> exact ⟨_, rfl⟩
    rw [hv] at hr
    subst hr
    refine lv_i2l hx hb dX0_inLayer_7 rfl ?_
    refine r_lst X hL hu (hFl _ hFu) 0 rfl (by decide) (by decide) dX0_inLayer_8 (fun H locs hL h1 h2 => ?_)
    refine lv_goto (tgt := 15) hx hb dX0_inLayer_9 (by decide) ?_
    refine lv_iconst (v := nI 0) hx hb dX0_inLayer_15 (by decide) ?_
    exact vx_ret (r_iret X hL rfl rfl dX0_inLayer_16 (by omega) (by omega) (WP.c0 h0 hv rfl hX hC h1 h2 hFu hKV.gE hFl))
theorem sw_X0_inLayer : SBW yX0_inLayer cX0_inLayer 4 (some .int) [(0, 9, 12, 13)] 3 := ⟨q1664, q98, q1665, ⟨by decide, by decide, by decide +kernel⟩⟩

set_option maxRecDepth 100000 in
set_option maxHeartbeats 4000000 in
theorem ct_X0_toldOn (l : Launch) (g : GT) (F : Nat → Prop) (S : MS) (n st ln : Nat) (hf hs : Bool) (o : Nat) (i : Int32) (u : Nat) (hl0 : l.stackTraces = false) (hFu : F u) (hFl : ∀ q, F q → gLo g ≤ q) : Cw l g yX0_toldOn cX0_toldOn 4 (some .int) [(0, 9, 12, 13)] 16 11 150 [.ref o, .int i, .ref u] (fun H => SkR g F S n st ln hf hs o H ∧ ∃ f, Al g u 1 f H) (WP g F o u (s_bad S (!inB i (nI 1) (nI 15)) (nI (cnt (tellB (S.1 0) n (hasB (i &&& matI (mw (S.1 0))))) n)))) := by
  refine Cw.of (by decide) (Nat.le_of_ble_eq_true rfl) ?_
  intro p e s m args below meth c X hT hP ls hl
  have hx := X.1
  have hb := X.2.1
  have hKV := X.2.2.2.2.2.2.2.1.1
  have hNC : NC s := hKV.2.2.2.2.2.2.2.2.2.2.2.2.2.2
  have hL : ∀ q ∈ ([] : List Loc), gLo g ≤ q.base := fun _ h => by cases h
  obtain ⟨hsk, f, hu⟩ := hP
  have he : ((s_bad S (!inB i (nI 1) (nI 15)) (nI (cnt (tellB (S.1 0) n (hasB (i &&& matI (mw (S.1 0))))) n)))).2.2 = S := by unfold s_bad; (repeat' split) <;> rfl
  have hn2 : ¬ ((s_bad S (!inB i (nI 1) (nI 15)) (nI (cnt (tellB (S.1 0) n (hasB (i &&& matI (mw (S.1 0))))) n)))).1 = 2 := by unfold s_bad; (try dsimp only); (repeat' split) <;> first | exact fun h => absurd (show (1 : Nat) = 2 from h) (by decide) | exact fun h => absurd (show (0 : Nat) = 2 from h) (by decide)
  have hl : lv_has ls 4 [(0, .ref o), (1, .int i), (2, .ref u)] := hl
  refine lv_aload_n hx hb dX0_toldOn_0 rfl (lv_at hl 2 rfl) ?_
  refine lv_iconst (v := nI 0) hx hb dX0_toldOn_1 (by decide) ?_
  refine lv_aload_n hx hb dX0_toldOn_2 rfl (lv_at hl 0 rfl) ?_
  refine lv_iload_n hx hb dX0_toldOn_3 rfl (lv_at hl 1 rfl) ?_
  refine Ce.runV (ct_X1_toldOn l g F S n st ln hf hs o i hl0) X hL hl vb_X1_toldOn q1676 (hsk.recv hKV) rfl rfl (Nat.le_of_ble_eq_true rfl) dX0_toldOn_4 ⟨Nat.le_of_ble_eq_true rfl, Nat.le_of_ble_eq_true rfl⟩ (by omega) (by omega) hsk (fun E ce q0 H locs hL hpx hce hcv hcl => ?_) (fun r H locs hL hp => ?_)
  · obtain ⟨hE, hXE⟩ := hpx
    have hX : SkX g F ((s_bad S (!inB i (nI 1) (nI 15)) (nI (cnt (tellB (S.1 0) n (hasB (i &&& matI (mw (S.1 0))))) n)))).2.2 o H := by rw [he]; exact (hsk.ext hXE).x
    have hC : Chg (fun q => ¬ F q) s.heap H := hXE.chg
    have hu := hu.chg hC (fun y => y hFu)
    rcases hE with ⟨rfl, hk⟩ | ⟨rfl, hk⟩
    ·
      refine r_catch1 X hT rfl (by decide) q1310 q804 hce hcv hcl ?_
      refine lv_astore_n (lv' := [(3, .ref _), (0, .ref _), (1, .int _), (2, .ref _)]) hx hb dX0_toldOn_12 rfl hl (by decide) rfl (fun ls hl => ?_)
      refine lv_iconst (v := nI 1) hx hb dX0_toldOn_13 (by decide) ?_
      exact vx_ret (r_iret X hL rfl rfl dX0_toldOn_14 (by omega) (by omega) (WP.cx hk (by decide) hX hC hu))
    ·
      exact absurd hk hn2
  · obtain ⟨h0, hr, hXE⟩ := hp
    have hX : SkX g F ((s_bad S (!inB i (nI 1) (nI 15)) (nI (cnt (tellB (S.1 0) n (hasB (i &&& matI (mw (S.1 0))))) n)))).2.2 o H := by rw [he]; exact (hsk.ext hXE).x
    have hC : Chg (fun q => ¬ F q) s.heap H := hXE.chg
    have hu := hu.chg hC (fun y => y hFu)
    obtain ⟨v0, hv⟩ : ∃ v9, ((s_bad S (!inB i (nI 1) (nI 15)) (nI (cnt (tellB (S.1 0) n (hasB (i &&& matI (mw (S.1 0))))) n)))).2.1 = some (.int v9) := by unfold s_bad; (repeat' split) <;> exact ⟨_, rfl⟩
    rw [hv] at hr
    subst hr
    refine lv_i2l hx hb dX0_toldOn_7 rfl ?_
    refine r_lst X hL hu (hFl _ hFu) 0 rfl (by decide) (by decide) dX0_toldOn_8 (fun H locs hL h1 h2 => ?_)
    refine lv_goto (tgt := 15) hx hb dX0_toldOn_9 (by decide) ?_
    refine lv_iconst (v := nI 0) hx hb dX0_toldOn_15 (by decide) ?_
    exact vx_ret (r_iret X hL rfl rfl dX0_toldOn_16 (by omega) (by omega) (WP.c0 h0 hv rfl hX hC h1 h2 hFu hKV.gE hFl))
theorem sw_X0_toldOn : SBW yX0_toldOn cX0_toldOn 4 (some .int) [(0, 9, 12, 13)] 3 := ⟨q1674, q98, q1675, ⟨by decide, by decide, by decide +kernel⟩⟩

set_option maxRecDepth 100000 in
set_option maxHeartbeats 4000000 in
theorem ct_X0_setsFor (l : Launch) (g : GT) (F : Nat → Prop) (S : MS) (n st ln : Nat) (hf hs : Bool) (o : Nat) (i : Int32) (u : Nat) (hl0 : l.stackTraces = false) (hFu : F u) (hFl : ∀ q, F q → gLo g ≤ q) : Cw l g yX0_setsFor cX0_setsFor 4 (some .int) [(0, 9, 12, 21)] 16 11 150 [.ref o, .int i, .ref u] (fun H => SkR g F S n st ln hf hs o H ∧ ∃ f, Al g u 1 f H) (WP g F o u (s_one S n i (fun i => nI (cnt (fun z => tellB (S.1 0) n (hasB (nI (z + 1) &&& matI (mw (S.1 0)))) i) 15)))) := by
  refine Cw.of (by decide) (Nat.le_of_ble_eq_true rfl) ?_
  intro p e s m args below meth c X hT hP ls hl
  have hx := X.1
  have hb := X.2.1
  have hKV := X.2.2.2.2.2.2.2.1.1
  have hNC : NC s := hKV.2.2.2.2.2.2.2.2.2.2.2.2.2.2
  have hL : ∀ q ∈ ([] : List Loc), gLo g ≤ q.base := fun _ h => by cases h
  obtain ⟨hsk, f, hu⟩ := hP
  have he : ((s_one S n i (fun i => nI (cnt (fun z => tellB (S.1 0) n (hasB (nI (z + 1) &&& matI (mw (S.1 0)))) i) 15)))).2.2 = S := by unfold s_one; (repeat' split) <;> rfl
  have hn2 : ¬ ((s_one S n i (fun i => nI (cnt (fun z => tellB (S.1 0) n (hasB (nI (z + 1) &&& matI (mw (S.1 0)))) i) 15)))).1 = 2 := by unfold s_one; (try dsimp only); (repeat' split) <;> first | exact fun h => absurd (show (1 : Nat) = 2 from h) (by decide) | exact fun h => absurd (show (0 : Nat) = 2 from h) (by decide)
  have hl : lv_has ls 4 [(0, .ref o), (1, .int i), (2, .ref u)] := hl
  refine lv_aload_n hx hb dX0_setsFor_0 rfl (lv_at hl 2 rfl) ?_
  refine lv_iconst (v := nI 0) hx hb dX0_setsFor_1 (by decide) ?_
  refine lv_aload_n hx hb dX0_setsFor_2 rfl (lv_at hl 0 rfl) ?_
  refine lv_iload_n hx hb dX0_setsFor_3 rfl (lv_at hl 1 rfl) ?_
  refine Ce.runV (ct_X1_setsFor l g F S n st ln hf hs o i hl0) X hL hl vb_X1_setsFor q1683 (hsk.recv hKV) rfl rfl (Nat.le_of_ble_eq_true rfl) dX0_setsFor_4 ⟨Nat.le_of_ble_eq_true rfl, Nat.le_of_ble_eq_true rfl⟩ (by omega) (by omega) hsk (fun E ce q0 H locs hL hpx hce hcv hcl => ?_) (fun r H locs hL hp => ?_)
  · obtain ⟨hE, hXE⟩ := hpx
    have hX : SkX g F ((s_one S n i (fun i => nI (cnt (fun z => tellB (S.1 0) n (hasB (nI (z + 1) &&& matI (mw (S.1 0)))) i) 15)))).2.2 o H := by rw [he]; exact (hsk.ext hXE).x
    have hC : Chg (fun q => ¬ F q) s.heap H := hXE.chg
    have hu := hu.chg hC (fun y => y hFu)
    rcases hE with ⟨rfl, hk⟩ | ⟨rfl, hk⟩
    ·
      refine r_catch1 X hT rfl (by decide) q1368 q1043 hce hcv hcl ?_
      refine lv_astore_n (lv' := [(3, .ref _), (0, .ref _), (1, .int _), (2, .ref _)]) hx hb dX0_setsFor_12 rfl hl (by decide) rfl (fun ls hl => ?_)
      refine lv_iconst (v := nI 1) hx hb dX0_setsFor_13 (by decide) ?_
      exact vx_ret (r_iret X hL rfl rfl dX0_setsFor_14 (by omega) (by omega) (WP.cx hk (by decide) hX hC hu))
    ·
      exact absurd hk hn2
  · obtain ⟨h0, hr, hXE⟩ := hp
    have hX : SkX g F ((s_one S n i (fun i => nI (cnt (fun z => tellB (S.1 0) n (hasB (nI (z + 1) &&& matI (mw (S.1 0)))) i) 15)))).2.2 o H := by rw [he]; exact (hsk.ext hXE).x
    have hC : Chg (fun q => ¬ F q) s.heap H := hXE.chg
    have hu := hu.chg hC (fun y => y hFu)
    obtain ⟨v0, hv⟩ : ∃ v9, ((s_one S n i (fun i => nI (cnt (fun z => tellB (S.1 0) n (hasB (nI (z + 1) &&& matI (mw (S.1 0)))) i) 15)))).2.1 = some (.int v9) := by unfold s_one; (repeat' split) <;> exact ⟨_, rfl⟩
    rw [hv] at hr
    subst hr
    refine lv_i2l hx hb dX0_setsFor_7 rfl ?_
    refine r_lst X hL hu (hFl _ hFu) 0 rfl (by decide) (by decide) dX0_setsFor_8 (fun H locs hL h1 h2 => ?_)
    refine lv_goto (tgt := 15) hx hb dX0_setsFor_9 (by decide) ?_
    refine lv_iconst (v := nI 0) hx hb dX0_setsFor_15 (by decide) ?_
    exact vx_ret (r_iret X hL rfl rfl dX0_setsFor_16 (by omega) (by omega) (WP.c0 h0 hv rfl hX hC h1 h2 hFu hKV.gE hFl))
theorem sw_X0_setsFor : SBW yX0_setsFor cX0_setsFor 4 (some .int) [(0, 9, 12, 21)] 3 := ⟨q1681, q98, q1682, ⟨by decide, by decide, by decide +kernel⟩⟩

set_option maxRecDepth 100000 in
set_option maxHeartbeats 4000000 in
theorem ct_X0_toldWeakly (l : Launch) (g : GT) (F : Nat → Prop) (S : MS) (n st ln : Nat) (hf hs : Bool) (o : Nat) (i : Int32) (u : Nat) (hl0 : l.stackTraces = false) (hFu : F u) (hFl : ∀ q, F q → gLo g ≤ q) : Cw l g yX0_toldWeakly cX0_toldWeakly 4 (some .int) [(0, 9, 12, 13)] 21 51 270 [.ref o, .int i, .ref u] (fun H => SkR g F S n st ln hf hs o H ∧ ∃ f, Al g u 1 f H) (WP g F o u (s_bad S (!inB i (nI 1) (nI 4)) (nI (cnt (fun k => cB (S.1 0) k && !anyB (wbB (S.1 0) i k) n) n)))) := by
  refine Cw.of (by decide) (Nat.le_of_ble_eq_true rfl) ?_
  intro p e s m args below meth c X hT hP ls hl
  have hx := X.1
  have hb := X.2.1
  have hKV := X.2.2.2.2.2.2.2.1.1
  have hNC : NC s := hKV.2.2.2.2.2.2.2.2.2.2.2.2.2.2
  have hL : ∀ q ∈ ([] : List Loc), gLo g ≤ q.base := fun _ h => by cases h
  obtain ⟨hsk, f, hu⟩ := hP
  have he : ((s_bad S (!inB i (nI 1) (nI 4)) (nI (cnt (fun k => cB (S.1 0) k && !anyB (wbB (S.1 0) i k) n) n)))).2.2 = S := by unfold s_bad; (repeat' split) <;> rfl
  have hn2 : ¬ ((s_bad S (!inB i (nI 1) (nI 4)) (nI (cnt (fun k => cB (S.1 0) k && !anyB (wbB (S.1 0) i k) n) n)))).1 = 2 := by unfold s_bad; (try dsimp only); (repeat' split) <;> first | exact fun h => absurd (show (1 : Nat) = 2 from h) (by decide) | exact fun h => absurd (show (0 : Nat) = 2 from h) (by decide)
  have hl : lv_has ls 4 [(0, .ref o), (1, .int i), (2, .ref u)] := hl
  refine lv_aload_n hx hb dX0_toldWeakly_0 rfl (lv_at hl 2 rfl) ?_
  refine lv_iconst (v := nI 0) hx hb dX0_toldWeakly_1 (by decide) ?_
  refine lv_aload_n hx hb dX0_toldWeakly_2 rfl (lv_at hl 0 rfl) ?_
  refine lv_iload_n hx hb dX0_toldWeakly_3 rfl (lv_at hl 1 rfl) ?_
  refine Ce.runV (ct_X1_toldWeakly l g F S n st ln hf hs o i hl0) X hL hl vb_X1_toldWeakly q1694 (hsk.recv hKV) rfl rfl (Nat.le_of_ble_eq_true rfl) dX0_toldWeakly_4 ⟨Nat.le_of_ble_eq_true rfl, Nat.le_of_ble_eq_true rfl⟩ (by omega) (by omega) hsk (fun E ce q0 H locs hL hpx hce hcv hcl => ?_) (fun r H locs hL hp => ?_)
  · obtain ⟨hE, hXE⟩ := hpx
    have hX : SkX g F ((s_bad S (!inB i (nI 1) (nI 4)) (nI (cnt (fun k => cB (S.1 0) k && !anyB (wbB (S.1 0) i k) n) n)))).2.2 o H := by rw [he]; exact (hsk.ext hXE).x
    have hC : Chg (fun q => ¬ F q) s.heap H := hXE.chg
    have hu := hu.chg hC (fun y => y hFu)
    rcases hE with ⟨rfl, hk⟩ | ⟨rfl, hk⟩
    ·
      refine r_catch1 X hT rfl (by decide) q1310 q804 hce hcv hcl ?_
      refine lv_astore_n (lv' := [(3, .ref _), (0, .ref _), (1, .int _), (2, .ref _)]) hx hb dX0_toldWeakly_12 rfl hl (by decide) rfl (fun ls hl => ?_)
      refine lv_iconst (v := nI 1) hx hb dX0_toldWeakly_13 (by decide) ?_
      exact vx_ret (r_iret X hL rfl rfl dX0_toldWeakly_14 (by omega) (by omega) (WP.cx hk (by decide) hX hC hu))
    ·
      exact absurd hk hn2
  · obtain ⟨h0, hr, hXE⟩ := hp
    have hX : SkX g F ((s_bad S (!inB i (nI 1) (nI 4)) (nI (cnt (fun k => cB (S.1 0) k && !anyB (wbB (S.1 0) i k) n) n)))).2.2 o H := by rw [he]; exact (hsk.ext hXE).x
    have hC : Chg (fun q => ¬ F q) s.heap H := hXE.chg
    have hu := hu.chg hC (fun y => y hFu)
    obtain ⟨v0, hv⟩ : ∃ v9, ((s_bad S (!inB i (nI 1) (nI 4)) (nI (cnt (fun k => cB (S.1 0) k && !anyB (wbB (S.1 0) i k) n) n)))).2.1 = some (.int v9) := by unfold s_bad; (repeat' split) <;> exact ⟨_, rfl⟩
    rw [hv] at hr
    subst hr
    refine lv_i2l hx hb dX0_toldWeakly_7 rfl ?_
    refine r_lst X hL hu (hFl _ hFu) 0 rfl (by decide) (by decide) dX0_toldWeakly_8 (fun H locs hL h1 h2 => ?_)
    refine lv_goto (tgt := 15) hx hb dX0_toldWeakly_9 (by decide) ?_
    refine lv_iconst (v := nI 0) hx hb dX0_toldWeakly_15 (by decide) ?_
    exact vx_ret (r_iret X hL rfl rfl dX0_toldWeakly_16 (by omega) (by omega) (WP.c0 h0 hv rfl hX hC h1 h2 hFu hKV.gE hFl))
theorem sw_X0_toldWeakly : SBW yX0_toldWeakly cX0_toldWeakly 4 (some .int) [(0, 9, 12, 13)] 3 := ⟨q1692, q98, q1693, ⟨by decide, by decide, by decide +kernel⟩⟩

set_option maxRecDepth 100000 in
set_option maxHeartbeats 4000000 in
theorem ct_X0_wouldBeTold (l : Launch) (g : GT) (F : Nat → Prop) (S : MS) (n st ln : Nat) (hf hs : Bool) (o : Nat) (a b q t : Int32) (u : Nat) (hl0 : l.stackTraces = false) (hFu : F u) (hFl : ∀ q, F q → gLo g ≤ q) : Cw l g yX0_wouldBeTold cX0_wouldBeTold 7 (some .int) [(0, 21, 24, 13)] 16 13 155 [.ref o, .int a, .int b, .int q, .int t, .ref u] (fun H => SkR g F S n st ln hf hs o H ∧ ∃ f, Al g u 1 f H) (WP g F o u (s_bad S (noVs a b q t) (bI (unB (S.1 0) n (amI a b q t))))) := by
  refine Cw.of (by decide) (Nat.le_of_ble_eq_true rfl) ?_
  intro p e s m args below meth c X hT hP ls hl
  have hx := X.1
  have hb := X.2.1
  have hKV := X.2.2.2.2.2.2.2.1.1
  have hNC : NC s := hKV.2.2.2.2.2.2.2.2.2.2.2.2.2.2
  have hL : ∀ q ∈ ([] : List Loc), gLo g ≤ q.base := fun _ h => by cases h
  obtain ⟨hsk, f, hu⟩ := hP
  have he : ((s_bad S (noVs a b q t) (bI (unB (S.1 0) n (amI a b q t))))).2.2 = S := by unfold s_bad; (repeat' split) <;> rfl
  have hn2 : ¬ ((s_bad S (noVs a b q t) (bI (unB (S.1 0) n (amI a b q t))))).1 = 2 := by unfold s_bad; (try dsimp only); (repeat' split) <;> first | exact fun h => absurd (show (1 : Nat) = 2 from h) (by decide) | exact fun h => absurd (show (0 : Nat) = 2 from h) (by decide)
  have hl : lv_has ls 7 [(0, .ref o), (1, .int a), (2, .int b), (3, .int q), (4, .int t), (5, .ref u)] := hl
  refine lv_aload hx hb dX0_wouldBeTold_0 (lv_at hl 5 rfl) ?_
  refine lv_iconst (v := nI 0) hx hb dX0_wouldBeTold_2 (by decide) ?_
  refine lv_aload_n hx hb dX0_wouldBeTold_3 rfl (lv_at hl 0 rfl) ?_
  refine lv_iload_n hx hb dX0_wouldBeTold_4 rfl (lv_at hl 1 rfl) ?_
  refine lv_iload_n hx hb dX0_wouldBeTold_5 rfl (lv_at hl 2 rfl) ?_
  refine lv_iload_n hx hb dX0_wouldBeTold_6 rfl (lv_at hl 3 rfl) ?_
  refine lv_iload hx hb dX0_wouldBeTold_7 (lv_at hl 4 rfl) ?_
  refine Ce.runV (ct_X1_wouldBeTold l g F S n st ln hf hs o a b q t hl0) X hL hl vb_X1_wouldBeTold q1701 (hsk.recv hKV) rfl rfl (Nat.le_of_ble_eq_true rfl) dX0_wouldBeTold_9 ⟨Nat.le_of_ble_eq_true rfl, Nat.le_of_ble_eq_true rfl⟩ (by omega) (by omega) hsk (fun E ce q0 H locs hL hpx hce hcv hcl => ?_) (fun r H locs hL hp => ?_)
  · obtain ⟨hE, hXE⟩ := hpx
    have hX : SkX g F ((s_bad S (noVs a b q t) (bI (unB (S.1 0) n (amI a b q t))))).2.2 o H := by rw [he]; exact (hsk.ext hXE).x
    have hC : Chg (fun q => ¬ F q) s.heap H := hXE.chg
    have hu := hu.chg hC (fun y => y hFu)
    rcases hE with ⟨rfl, hk⟩ | ⟨rfl, hk⟩
    ·
      refine r_catch1 X hT rfl (by decide) q1310 q804 hce hcv hcl ?_
      refine lv_astore (lv' := [(6, .ref _), (0, .ref _), (1, .int _), (2, .int _), (3, .int _), (4, .int _), (5, .ref _)]) hx hb dX0_wouldBeTold_24 hl (by decide) rfl (fun ls hl => ?_)
      refine lv_iconst (v := nI 1) hx hb dX0_wouldBeTold_26 (by decide) ?_
      exact vx_ret (r_iret X hL rfl rfl dX0_wouldBeTold_27 (by omega) (by omega) (WP.cx hk (by decide) hX hC hu))
    ·
      exact absurd hk hn2
  · obtain ⟨h0, hr, hXE⟩ := hp
    have hX : SkX g F ((s_bad S (noVs a b q t) (bI (unB (S.1 0) n (amI a b q t))))).2.2 o H := by rw [he]; exact (hsk.ext hXE).x
    have hC : Chg (fun q => ¬ F q) s.heap H := hXE.chg
    have hu := hu.chg hC (fun y => y hFu)
    obtain ⟨b0, hv⟩ : ∃ b9, ((s_bad S (noVs a b q t) (bI (unB (S.1 0) n (amI a b q t))))).2.1 = some (.int (bI b9)) := by unfold s_bad; split <;> first | exact ⟨false, rfl⟩ | exact ⟨_, rfl⟩
    rw [hv] at hr
    subst hr
    refine b_ifeq (tgt := 19) X dX0_wouldBeTold_12 (by decide) (fun c_12 => ?_) (fun c_12 => ?_)
    ·
      refine lv_lconst (v := 0) hx hb dX0_wouldBeTold_19 (by decide) ?_
      refine r_lst X hL hu (hFl _ hFu) 0 rfl (by decide) (by decide) dX0_wouldBeTold_20 (fun H locs hL h1 h2 => ?_)
      refine lv_goto (tgt := 28) hx hb dX0_wouldBeTold_21 (by decide) ?_
      refine lv_iconst (v := nI 0) hx hb dX0_wouldBeTold_28 (by decide) ?_
      exact vx_ret (r_iret X hL rfl rfl dX0_wouldBeTold_29 (by omega) (by omega) (WP.c0 h0 hv (by rw [c_12]; rfl) hX hC h1 h2 hFu hKV.gE hFl))
    ·
      refine lv_lconst (v := 1) hx hb dX0_wouldBeTold_15 (by decide) ?_
      refine lv_goto (tgt := 20) hx hb dX0_wouldBeTold_16 (by decide) ?_
      refine r_lst X hL hu (hFl _ hFu) 0 rfl (by decide) (by decide) dX0_wouldBeTold_20 (fun H locs hL h1 h2 => ?_)
      refine lv_goto (tgt := 28) hx hb dX0_wouldBeTold_21 (by decide) ?_
      refine lv_iconst (v := nI 0) hx hb dX0_wouldBeTold_28 (by decide) ?_
      exact vx_ret (r_iret X hL rfl rfl dX0_wouldBeTold_29 (by omega) (by omega) (WP.c0 h0 hv (by rw [c_12]; rfl) hX hC h1 h2 hFu hKV.gE hFl))
theorem sw_X0_wouldBeTold : SBW yX0_wouldBeTold cX0_wouldBeTold 7 (some .int) [(0, 21, 24, 13)] 6 := ⟨q1699, q98, q1700, ⟨by decide, by decide, by decide +kernel⟩⟩

set_option maxRecDepth 100000 in
set_option maxHeartbeats 4000000 in
theorem ct_X0_wouldBeat (l : Launch) (g : GT) (F : Nat → Prop) (S : MS) (n st ln : Nat) (hf hs : Bool) (o : Nat) (a b q t : Int32) (u : Nat) (hl0 : l.stackTraces = false) (hFu : F u) (hFl : ∀ q, F q → gLo g ≤ q) : Cw l g yX0_wouldBeat cX0_wouldBeat 7 (some .int) [(0, 14, 17, 13)] 16 23 301 [.ref o, .int a, .int b, .int q, .int t, .ref u] (fun H => SkR g F S n st ln hf hs o H ∧ ∃ f, Al g u 1 f H) (WP g F o u (s_bad S (noVs a b q t) (nI (cnt (fun k => couB (mle (S.1 0)) (mgr (S.1 0)) (amI a b q t) && (tellB (S.1 0) n (hasB (matI (mw (S.1 0)))) k && decide (agN (mw (S.1 0)) (mv (S.1 0) k) (amI a b q t) = 2))) n)))) := by
  refine Cw.of (by decide) (Nat.le_of_ble_eq_true rfl) ?_
  intro p e s m args below meth c X hT hP ls hl
  have hx := X.1
  have hb := X.2.1
  have hKV := X.2.2.2.2.2.2.2.1.1
  have hNC : NC s := hKV.2.2.2.2.2.2.2.2.2.2.2.2.2.2
  have hL : ∀ q ∈ ([] : List Loc), gLo g ≤ q.base := fun _ h => by cases h
  obtain ⟨hsk, f, hu⟩ := hP
  have he : ((s_bad S (noVs a b q t) (nI (cnt (fun k => couB (mle (S.1 0)) (mgr (S.1 0)) (amI a b q t) && (tellB (S.1 0) n (hasB (matI (mw (S.1 0)))) k && decide (agN (mw (S.1 0)) (mv (S.1 0) k) (amI a b q t) = 2))) n)))).2.2 = S := by unfold s_bad; (repeat' split) <;> rfl
  have hn2 : ¬ ((s_bad S (noVs a b q t) (nI (cnt (fun k => couB (mle (S.1 0)) (mgr (S.1 0)) (amI a b q t) && (tellB (S.1 0) n (hasB (matI (mw (S.1 0)))) k && decide (agN (mw (S.1 0)) (mv (S.1 0) k) (amI a b q t) = 2))) n)))).1 = 2 := by unfold s_bad; (try dsimp only); (repeat' split) <;> first | exact fun h => absurd (show (1 : Nat) = 2 from h) (by decide) | exact fun h => absurd (show (0 : Nat) = 2 from h) (by decide)
  have hl : lv_has ls 7 [(0, .ref o), (1, .int a), (2, .int b), (3, .int q), (4, .int t), (5, .ref u)] := hl
  refine lv_aload hx hb dX0_wouldBeat_0 (lv_at hl 5 rfl) ?_
  refine lv_iconst (v := nI 0) hx hb dX0_wouldBeat_2 (by decide) ?_
  refine lv_aload_n hx hb dX0_wouldBeat_3 rfl (lv_at hl 0 rfl) ?_
  refine lv_iload_n hx hb dX0_wouldBeat_4 rfl (lv_at hl 1 rfl) ?_
  refine lv_iload_n hx hb dX0_wouldBeat_5 rfl (lv_at hl 2 rfl) ?_
  refine lv_iload_n hx hb dX0_wouldBeat_6 rfl (lv_at hl 3 rfl) ?_
  refine lv_iload hx hb dX0_wouldBeat_7 (lv_at hl 4 rfl) ?_
  refine Ce.runV (ct_X1_wouldBeat l g F S n st ln hf hs o a b q t hl0) X hL hl vb_X1_wouldBeat q1712 (hsk.recv hKV) rfl rfl (Nat.le_of_ble_eq_true rfl) dX0_wouldBeat_9 ⟨Nat.le_of_ble_eq_true rfl, Nat.le_of_ble_eq_true rfl⟩ (by omega) (by omega) hsk (fun E ce q0 H locs hL hpx hce hcv hcl => ?_) (fun r H locs hL hp => ?_)
  · obtain ⟨hE, hXE⟩ := hpx
    have hX : SkX g F ((s_bad S (noVs a b q t) (nI (cnt (fun k => couB (mle (S.1 0)) (mgr (S.1 0)) (amI a b q t) && (tellB (S.1 0) n (hasB (matI (mw (S.1 0)))) k && decide (agN (mw (S.1 0)) (mv (S.1 0) k) (amI a b q t) = 2))) n)))).2.2 o H := by rw [he]; exact (hsk.ext hXE).x
    have hC : Chg (fun q => ¬ F q) s.heap H := hXE.chg
    have hu := hu.chg hC (fun y => y hFu)
    rcases hE with ⟨rfl, hk⟩ | ⟨rfl, hk⟩
    ·
      refine r_catch1 X hT rfl (by decide) q1310 q804 hce hcv hcl ?_
      refine lv_astore (lv' := [(6, .ref _), (0, .ref _), (1, .int _), (2, .int _), (3, .int _), (4, .int _), (5, .ref _)]) hx hb dX0_wouldBeat_17 hl (by decide) rfl (fun ls hl => ?_)
      refine lv_iconst (v := nI 1) hx hb dX0_wouldBeat_19 (by decide) ?_
      exact vx_ret (r_iret X hL rfl rfl dX0_wouldBeat_20 (by omega) (by omega) (WP.cx hk (by decide) hX hC hu))
    ·
      exact absurd hk hn2
  · obtain ⟨h0, hr, hXE⟩ := hp
    have hX : SkX g F ((s_bad S (noVs a b q t) (nI (cnt (fun k => couB (mle (S.1 0)) (mgr (S.1 0)) (amI a b q t) && (tellB (S.1 0) n (hasB (matI (mw (S.1 0)))) k && decide (agN (mw (S.1 0)) (mv (S.1 0) k) (amI a b q t) = 2))) n)))).2.2 o H := by rw [he]; exact (hsk.ext hXE).x
    have hC : Chg (fun q => ¬ F q) s.heap H := hXE.chg
    have hu := hu.chg hC (fun y => y hFu)
    obtain ⟨v0, hv⟩ : ∃ v9, ((s_bad S (noVs a b q t) (nI (cnt (fun k => couB (mle (S.1 0)) (mgr (S.1 0)) (amI a b q t) && (tellB (S.1 0) n (hasB (matI (mw (S.1 0)))) k && decide (agN (mw (S.1 0)) (mv (S.1 0) k) (amI a b q t) = 2))) n)))).2.1 = some (.int v9) := by unfold s_bad; (repeat' split) <;> exact ⟨_, rfl⟩
    rw [hv] at hr
    subst hr
    refine lv_i2l hx hb dX0_wouldBeat_12 rfl ?_
    refine r_lst X hL hu (hFl _ hFu) 0 rfl (by decide) (by decide) dX0_wouldBeat_13 (fun H locs hL h1 h2 => ?_)
    refine lv_goto (tgt := 21) hx hb dX0_wouldBeat_14 (by decide) ?_
    refine lv_iconst (v := nI 0) hx hb dX0_wouldBeat_21 (by decide) ?_
    exact vx_ret (r_iret X hL rfl rfl dX0_wouldBeat_22 (by omega) (by omega) (WP.c0 h0 hv rfl hX hC h1 h2 hFu hKV.gE hFl))
theorem sw_X0_wouldBeat : SBW yX0_wouldBeat cX0_wouldBeat 7 (some .int) [(0, 14, 17, 13)] 6 := ⟨q1710, q98, q1711, ⟨by decide, by decide, by decide +kernel⟩⟩

set_option maxRecDepth 100000 in
set_option maxHeartbeats 4000000 in
theorem ct_X0_raiseByTrying (l : Launch) (g : GT) (F : Nat → Prop) (S : MS) (n st ln : Nat) (hf hs : Bool) (o : Nat) (i q : Int32) (u : Nat) (hl0 : l.stackTraces = false) (hFu : F u) (hFl : ∀ q, F q → gLo g ≤ q) : Cw l g yX0_raiseByTrying cX0_raiseByTrying 5 (some .int) [(0, 10, 13, 21), (0, 10, 17, 15)] 17 2023 29418 [.ref o, .int i, .int q, .ref u] (fun H => SkR g F S n st ln hf hs o H ∧ ∃ f, Al g u 1 f H) (WP g F o u (s_raise S n i q)) := by
  refine Cw.of (by decide) (Nat.le_of_ble_eq_true rfl) ?_
  intro p e s m args below meth c X hT hP ls hl
  have hx := X.1
  have hb := X.2.1
  have hKV := X.2.2.2.2.2.2.2.1.1
  have hNC : NC s := hKV.2.2.2.2.2.2.2.2.2.2.2.2.2.2
  have hL : ∀ q ∈ ([] : List Loc), gLo g ≤ q.base := fun _ h => by cases h
  obtain ⟨hsk, f, hu⟩ := hP
  have he : ((s_raise S n i q)).2.2 = S := by unfold s_raise; (repeat' split) <;> rfl
  have hl : lv_has ls 5 [(0, .ref o), (1, .int i), (2, .int q), (3, .ref u)] := hl
  refine lv_aload_n hx hb dX0_raiseByTrying_0 rfl (lv_at hl 3 rfl) ?_
  refine lv_iconst (v := nI 0) hx hb dX0_raiseByTrying_1 (by decide) ?_
  refine lv_aload_n hx hb dX0_raiseByTrying_2 rfl (lv_at hl 0 rfl) ?_
  refine lv_iload_n hx hb dX0_raiseByTrying_3 rfl (lv_at hl 1 rfl) ?_
  refine lv_iload_n hx hb dX0_raiseByTrying_4 rfl (lv_at hl 2 rfl) ?_
  refine Ce.runV (ct_X1_raiseByTrying l g F S n st ln hf hs o i q hl0) X hL hl vb_X1_raiseByTrying q1726 (hsk.recv hKV) rfl rfl (Nat.le_of_ble_eq_true rfl) dX0_raiseByTrying_5 ⟨Nat.le_of_ble_eq_true rfl, Nat.le_of_ble_eq_true rfl⟩ (by omega) (by omega) hsk (fun E ce q0 H locs hL hpx hce hcv hcl => ?_) (fun r H locs hL hp => ?_)
  · obtain ⟨hE, hXE⟩ := hpx
    have hX : SkX g F ((s_raise S n i q)).2.2 o H := by rw [he]; exact (hsk.ext hXE).x
    have hC : Chg (fun q => ¬ F q) s.heap H := hXE.chg
    have hu := hu.chg hC (fun y => y hFu)
    rcases hE with ⟨rfl, hk⟩ | ⟨rfl, hk⟩
    ·
      refine r_catch1 X hT rfl (by decide) q1368 q1043 hce hcv hcl ?_
      refine lv_astore (lv' := [(4, .ref _), (0, .ref _), (1, .int _), (2, .int _), (3, .ref _)]) hx hb dX0_raiseByTrying_13 hl (by decide) rfl (fun ls hl => ?_)
      refine lv_iconst (v := nI 1) hx hb dX0_raiseByTrying_15 (by decide) ?_
      exact vx_ret (r_iret X hL rfl rfl dX0_raiseByTrying_16 (by omega) (by omega) (WP.cx hk (by decide) hX hC hu))
    ·
      refine r_catch2 X hT rfl (by decide) (by decide) q1311 q1368 hNC.2.2 q454 hce hcv hcl ?_
      refine lv_astore (lv' := [(4, .ref _), (0, .ref _), (1, .int _), (2, .int _), (3, .ref _)]) hx hb dX0_raiseByTrying_17 hl (by decide) rfl (fun ls hl => ?_)
      refine lv_iconst (v := nI 2) hx hb dX0_raiseByTrying_19 (by decide) ?_
      exact vx_ret (r_iret X hL rfl rfl dX0_raiseByTrying_20 (by omega) (by omega) (WP.cx hk (by decide) hX hC hu))
  · obtain ⟨h0, hr, hXE⟩ := hp
    have hX : SkX g F ((s_raise S n i q)).2.2 o H := by rw [he]; exact (hsk.ext hXE).x
    have hC : Chg (fun q => ¬ F q) s.heap H := hXE.chg
    have hu := hu.chg hC (fun y => y hFu)
    obtain ⟨v0, hv⟩ : ∃ v9, ((s_raise S n i q)).2.1 = some (.int v9) := by unfold s_raise; (repeat' split) <;> exact ⟨_, rfl⟩
    rw [hv] at hr
    subst hr
    refine lv_i2l hx hb dX0_raiseByTrying_8 rfl ?_
    refine r_lst X hL hu (hFl _ hFu) 0 rfl (by decide) (by decide) dX0_raiseByTrying_9 (fun H locs hL h1 h2 => ?_)
    refine lv_goto (tgt := 21) hx hb dX0_raiseByTrying_10 (by decide) ?_
    refine lv_iconst (v := nI 0) hx hb dX0_raiseByTrying_21 (by decide) ?_
    exact vx_ret (r_iret X hL rfl rfl dX0_raiseByTrying_22 (by omega) (by omega) (WP.c0 h0 hv rfl hX hC h1 h2 hFu hKV.gE hFl))
theorem sw_X0_raiseByTrying : SBW yX0_raiseByTrying cX0_raiseByTrying 5 (some .int) [(0, 10, 13, 21), (0, 10, 17, 15)] 4 := ⟨q1724, q98, q1725, ⟨by decide, by decide, by decide +kernel⟩⟩

set_option maxRecDepth 100000 in
set_option maxHeartbeats 4000000 in
theorem ct_X0_raiseByBeaters (l : Launch) (g : GT) (F : Nat → Prop) (S : MS) (n st ln : Nat) (hf hs : Bool) (o : Nat) (i q : Int32) (u : Nat) (hl0 : l.stackTraces = false) (hFu : F u) (hFl : ∀ q, F q → gLo g ≤ q) : Cw l g yX0_raiseByBeaters cX0_raiseByBeaters 5 (some .int) [(0, 10, 13, 21), (0, 10, 17, 15)] 17 12 159 [.ref o, .int i, .int q, .ref u] (fun H => SkR g F S n st ln hf hs o H ∧ ∃ f, Al g u 1 f H) (WP g F o u (s_raise S n i q)) := by
  refine Cw.of (by decide) (Nat.le_of_ble_eq_true rfl) ?_
  intro p e s m args below meth c X hT hP ls hl
  have hx := X.1
  have hb := X.2.1
  have hKV := X.2.2.2.2.2.2.2.1.1
  have hNC : NC s := hKV.2.2.2.2.2.2.2.2.2.2.2.2.2.2
  have hL : ∀ q ∈ ([] : List Loc), gLo g ≤ q.base := fun _ h => by cases h
  obtain ⟨hsk, f, hu⟩ := hP
  have he : ((s_raise S n i q)).2.2 = S := by unfold s_raise; (repeat' split) <;> rfl
  have hl : lv_has ls 5 [(0, .ref o), (1, .int i), (2, .int q), (3, .ref u)] := hl
  refine lv_aload_n hx hb dX0_raiseByBeaters_0 rfl (lv_at hl 3 rfl) ?_
  refine lv_iconst (v := nI 0) hx hb dX0_raiseByBeaters_1 (by decide) ?_
  refine lv_aload_n hx hb dX0_raiseByBeaters_2 rfl (lv_at hl 0 rfl) ?_
  refine lv_iload_n hx hb dX0_raiseByBeaters_3 rfl (lv_at hl 1 rfl) ?_
  refine lv_iload_n hx hb dX0_raiseByBeaters_4 rfl (lv_at hl 2 rfl) ?_
  refine Ce.runV (ct_X1_raiseByBeaters l g F S n st ln hf hs o i q hl0) X hL hl vb_X1_raiseByBeaters q1755 (hsk.recv hKV) rfl rfl (Nat.le_of_ble_eq_true rfl) dX0_raiseByBeaters_5 ⟨Nat.le_of_ble_eq_true rfl, Nat.le_of_ble_eq_true rfl⟩ (by omega) (by omega) hsk (fun E ce q0 H locs hL hpx hce hcv hcl => ?_) (fun r H locs hL hp => ?_)
  · obtain ⟨hE, hXE⟩ := hpx
    have hX : SkX g F ((s_raise S n i q)).2.2 o H := by rw [he]; exact (hsk.ext hXE).x
    have hC : Chg (fun q => ¬ F q) s.heap H := hXE.chg
    have hu := hu.chg hC (fun y => y hFu)
    rcases hE with ⟨rfl, hk⟩ | ⟨rfl, hk⟩
    ·
      refine r_catch1 X hT rfl (by decide) q1368 q1043 hce hcv hcl ?_
      refine lv_astore (lv' := [(4, .ref _), (0, .ref _), (1, .int _), (2, .int _), (3, .ref _)]) hx hb dX0_raiseByBeaters_13 hl (by decide) rfl (fun ls hl => ?_)
      refine lv_iconst (v := nI 1) hx hb dX0_raiseByBeaters_15 (by decide) ?_
      exact vx_ret (r_iret X hL rfl rfl dX0_raiseByBeaters_16 (by omega) (by omega) (WP.cx hk (by decide) hX hC hu))
    ·
      refine r_catch2 X hT rfl (by decide) (by decide) q1311 q1368 hNC.2.2 q454 hce hcv hcl ?_
      refine lv_astore (lv' := [(4, .ref _), (0, .ref _), (1, .int _), (2, .int _), (3, .ref _)]) hx hb dX0_raiseByBeaters_17 hl (by decide) rfl (fun ls hl => ?_)
      refine lv_iconst (v := nI 2) hx hb dX0_raiseByBeaters_19 (by decide) ?_
      exact vx_ret (r_iret X hL rfl rfl dX0_raiseByBeaters_20 (by omega) (by omega) (WP.cx hk (by decide) hX hC hu))
  · obtain ⟨h0, hr, hXE⟩ := hp
    have hX : SkX g F ((s_raise S n i q)).2.2 o H := by rw [he]; exact (hsk.ext hXE).x
    have hC : Chg (fun q => ¬ F q) s.heap H := hXE.chg
    have hu := hu.chg hC (fun y => y hFu)
    obtain ⟨v0, hv⟩ : ∃ v9, ((s_raise S n i q)).2.1 = some (.int v9) := by unfold s_raise; (repeat' split) <;> exact ⟨_, rfl⟩
    rw [hv] at hr
    subst hr
    refine lv_i2l hx hb dX0_raiseByBeaters_8 rfl ?_
    refine r_lst X hL hu (hFl _ hFu) 0 rfl (by decide) (by decide) dX0_raiseByBeaters_9 (fun H locs hL h1 h2 => ?_)
    refine lv_goto (tgt := 21) hx hb dX0_raiseByBeaters_10 (by decide) ?_
    refine lv_iconst (v := nI 0) hx hb dX0_raiseByBeaters_21 (by decide) ?_
    exact vx_ret (r_iret X hL rfl rfl dX0_raiseByBeaters_22 (by omega) (by omega) (WP.c0 h0 hv rfl hX hC h1 h2 hFu hKV.gE hFl))
theorem sw_X0_raiseByBeaters : SBW yX0_raiseByBeaters cX0_raiseByBeaters 5 (some .int) [(0, 10, 13, 21), (0, 10, 17, 15)] 4 := ⟨q1753, q98, q1754, ⟨by decide, by decide, by decide +kernel⟩⟩

set_option maxRecDepth 100000 in
set_option maxHeartbeats 4000000 in
theorem ct_X0_coveredGreedily (l : Launch) (g : GT) (F : Nat → Prop) (S : MS) (n st ln : Nat) (hf hs : Bool) (o : Nat) (i : Int32) (u : Nat) (hl0 : l.stackTraces = false) (hFu : F u) (hFl : ∀ q, F q → gLo g ≤ q) : Cw l g yX0_coveredGreedily cX0_coveredGreedily 4 (some .int) [(0, 9, 12, 13)] 16 22 410 [.ref o, .int i, .ref u] (fun H => SkR g F S n st ln hf hs o H ∧ ∃ f, Al g u 1 f H) (WP g F o u (s_bad S (!inB i (nI 1) (nI 5)) (nI (grS (S.1 0) n (tellB (S.1 0) n (hasB (matI (mw (S.1 0))))) (min (cnt (tellB (S.1 0) n (hasB (matI (mw (S.1 0))))) n) i.toNatClampNeg)).2.2))) := by
  refine Cw.of (by decide) (Nat.le_of_ble_eq_true rfl) ?_
  intro p e s m args below meth c X hT hP ls hl
  have hx := X.1
  have hb := X.2.1
  have hKV := X.2.2.2.2.2.2.2.1.1
  have hNC : NC s := hKV.2.2.2.2.2.2.2.2.2.2.2.2.2.2
  have hL : ∀ q ∈ ([] : List Loc), gLo g ≤ q.base := fun _ h => by cases h
  obtain ⟨hsk, f, hu⟩ := hP
  have he : ((s_bad S (!inB i (nI 1) (nI 5)) (nI (grS (S.1 0) n (tellB (S.1 0) n (hasB (matI (mw (S.1 0))))) (min (cnt (tellB (S.1 0) n (hasB (matI (mw (S.1 0))))) n) i.toNatClampNeg)).2.2))).2.2 = S := by unfold s_bad; (repeat' split) <;> rfl
  have hn2 : ¬ ((s_bad S (!inB i (nI 1) (nI 5)) (nI (grS (S.1 0) n (tellB (S.1 0) n (hasB (matI (mw (S.1 0))))) (min (cnt (tellB (S.1 0) n (hasB (matI (mw (S.1 0))))) n) i.toNatClampNeg)).2.2))).1 = 2 := by unfold s_bad; (try dsimp only); (repeat' split) <;> first | exact fun h => absurd (show (1 : Nat) = 2 from h) (by decide) | exact fun h => absurd (show (0 : Nat) = 2 from h) (by decide)
  have hl : lv_has ls 4 [(0, .ref o), (1, .int i), (2, .ref u)] := hl
  refine lv_aload_n hx hb dX0_coveredGreedily_0 rfl (lv_at hl 2 rfl) ?_
  refine lv_iconst (v := nI 0) hx hb dX0_coveredGreedily_1 (by decide) ?_
  refine lv_aload_n hx hb dX0_coveredGreedily_2 rfl (lv_at hl 0 rfl) ?_
  refine lv_iload_n hx hb dX0_coveredGreedily_3 rfl (lv_at hl 1 rfl) ?_
  refine Ce.runV (ct_X1_coveredGreedily l g F S n st ln hf hs o i hl0) X hL hl vb_X1_coveredGreedily q1771 (hsk.recv hKV) rfl rfl (Nat.le_of_ble_eq_true rfl) dX0_coveredGreedily_4 ⟨Nat.le_of_ble_eq_true rfl, Nat.le_of_ble_eq_true rfl⟩ (by omega) (by omega) hsk (fun E ce q0 H locs hL hpx hce hcv hcl => ?_) (fun r H locs hL hp => ?_)
  · obtain ⟨hE, hXE⟩ := hpx
    have hX : SkX g F ((s_bad S (!inB i (nI 1) (nI 5)) (nI (grS (S.1 0) n (tellB (S.1 0) n (hasB (matI (mw (S.1 0))))) (min (cnt (tellB (S.1 0) n (hasB (matI (mw (S.1 0))))) n) i.toNatClampNeg)).2.2))).2.2 o H := by rw [he]; exact (hsk.ext hXE).x
    have hC : Chg (fun q => ¬ F q) s.heap H := hXE.chg
    have hu := hu.chg hC (fun y => y hFu)
    rcases hE with ⟨rfl, hk⟩ | ⟨rfl, hk⟩
    ·
      refine r_catch1 X hT rfl (by decide) q1310 q804 hce hcv hcl ?_
      refine lv_astore_n (lv' := [(3, .ref _), (0, .ref _), (1, .int _), (2, .ref _)]) hx hb dX0_coveredGreedily_12 rfl hl (by decide) rfl (fun ls hl => ?_)
      refine lv_iconst (v := nI 1) hx hb dX0_coveredGreedily_13 (by decide) ?_
      exact vx_ret (r_iret X hL rfl rfl dX0_coveredGreedily_14 (by omega) (by omega) (WP.cx hk (by decide) hX hC hu))
    ·
      exact absurd hk hn2
  · obtain ⟨h0, hr, hXE⟩ := hp
    have hX : SkX g F ((s_bad S (!inB i (nI 1) (nI 5)) (nI (grS (S.1 0) n (tellB (S.1 0) n (hasB (matI (mw (S.1 0))))) (min (cnt (tellB (S.1 0) n (hasB (matI (mw (S.1 0))))) n) i.toNatClampNeg)).2.2))).2.2 o H := by rw [he]; exact (hsk.ext hXE).x
    have hC : Chg (fun q => ¬ F q) s.heap H := hXE.chg
    have hu := hu.chg hC (fun y => y hFu)
    obtain ⟨v0, hv⟩ : ∃ v9, ((s_bad S (!inB i (nI 1) (nI 5)) (nI (grS (S.1 0) n (tellB (S.1 0) n (hasB (matI (mw (S.1 0))))) (min (cnt (tellB (S.1 0) n (hasB (matI (mw (S.1 0))))) n) i.toNatClampNeg)).2.2))).2.1 = some (.int v9) := by unfold s_bad; (repeat' split) <;> exact ⟨_, rfl⟩
    rw [hv] at hr
    subst hr
    refine lv_i2l hx hb dX0_coveredGreedily_7 rfl ?_
    refine r_lst X hL hu (hFl _ hFu) 0 rfl (by decide) (by decide) dX0_coveredGreedily_8 (fun H locs hL h1 h2 => ?_)
    refine lv_goto (tgt := 15) hx hb dX0_coveredGreedily_9 (by decide) ?_
    refine lv_iconst (v := nI 0) hx hb dX0_coveredGreedily_15 (by decide) ?_
    exact vx_ret (r_iret X hL rfl rfl dX0_coveredGreedily_16 (by omega) (by omega) (WP.c0 h0 hv rfl hX hC h1 h2 hFu hKV.gE hFl))
theorem sw_X0_coveredGreedily : SBW yX0_coveredGreedily cX0_coveredGreedily 4 (some .int) [(0, 9, 12, 13)] 3 := ⟨q1769, q98, q1770, ⟨by decide, by decide, by decide +kernel⟩⟩

set_option maxRecDepth 100000 in
set_option maxHeartbeats 4000000 in
theorem ct_X0_takenAt (l : Launch) (g : GT) (F : Nat → Prop) (S : MS) (n st ln : Nat) (hf hs : Bool) (o : Nat) (i : Int32) (u : Nat) (hl0 : l.stackTraces = false) (hFu : F u) (hFl : ∀ q, F q → gLo g ≤ q) : Cw l g yX0_takenAt cX0_takenAt 4 (some .int) [(0, 9, 12, 21)] 17 41 646 [.ref o, .int i, .ref u] (fun H => SkR g F S n st ln hf hs o H ∧ ∃ f, Al g u 1 f H) (WP g F o u (s_taken S n i)) := by
  refine Cw.of (by decide) (Nat.le_of_ble_eq_true rfl) ?_
  intro p e s m args below meth c X hT hP ls hl
  have hx := X.1
  have hb := X.2.1
  have hKV := X.2.2.2.2.2.2.2.1.1
  have hNC : NC s := hKV.2.2.2.2.2.2.2.2.2.2.2.2.2.2
  have hL : ∀ q ∈ ([] : List Loc), gLo g ≤ q.base := fun _ h => by cases h
  obtain ⟨hsk, f, hu⟩ := hP
  have he : ((s_taken S n i)).2.2 = S := by unfold s_taken; (repeat' split) <;> rfl
  have hn2 : ¬ ((s_taken S n i)).1 = 2 := by unfold s_taken; (try dsimp only); (repeat' split) <;> first | exact fun h => absurd (show (1 : Nat) = 2 from h) (by decide) | exact fun h => absurd (show (0 : Nat) = 2 from h) (by decide)
  have hl : lv_has ls 4 [(0, .ref o), (1, .int i), (2, .ref u)] := hl
  refine lv_aload_n hx hb dX0_takenAt_0 rfl (lv_at hl 2 rfl) ?_
  refine lv_iconst (v := nI 0) hx hb dX0_takenAt_1 (by decide) ?_
  refine lv_aload_n hx hb dX0_takenAt_2 rfl (lv_at hl 0 rfl) ?_
  refine lv_iload_n hx hb dX0_takenAt_3 rfl (lv_at hl 1 rfl) ?_
  refine Ce.runV (ct_X1_takenAt l g F S n st ln hf hs o i hl0) X hL hl vb_X1_takenAt q1778 (hsk.recv hKV) rfl rfl (Nat.le_of_ble_eq_true rfl) dX0_takenAt_4 ⟨Nat.le_of_ble_eq_true rfl, Nat.le_of_ble_eq_true rfl⟩ (by omega) (by omega) hsk (fun E ce q0 H locs hL hpx hce hcv hcl => ?_) (fun r H locs hL hp => ?_)
  · obtain ⟨hE, hXE⟩ := hpx
    have hX : SkX g F ((s_taken S n i)).2.2 o H := by rw [he]; exact (hsk.ext hXE).x
    have hC : Chg (fun q => ¬ F q) s.heap H := hXE.chg
    have hu := hu.chg hC (fun y => y hFu)
    rcases hE with ⟨rfl, hk⟩ | ⟨rfl, hk⟩
    ·
      refine r_catch1 X hT rfl (by decide) q1368 q1043 hce hcv hcl ?_
      refine lv_astore_n (lv' := [(3, .ref _), (0, .ref _), (1, .int _), (2, .ref _)]) hx hb dX0_takenAt_12 rfl hl (by decide) rfl (fun ls hl => ?_)
      refine lv_iconst (v := nI 1) hx hb dX0_takenAt_13 (by decide) ?_
      exact vx_ret (r_iret X hL rfl rfl dX0_takenAt_14 (by omega) (by omega) (WP.cx hk (by decide) hX hC hu))
    ·
      exact absurd hk hn2
  · obtain ⟨h0, hr, hXE⟩ := hp
    have hX : SkX g F ((s_taken S n i)).2.2 o H := by rw [he]; exact (hsk.ext hXE).x
    have hC : Chg (fun q => ¬ F q) s.heap H := hXE.chg
    have hu := hu.chg hC (fun y => y hFu)
    obtain ⟨v0, hv⟩ : ∃ v9, ((s_taken S n i)).2.1 = some (.int v9) := by unfold s_taken; (repeat' split) <;> exact ⟨_, rfl⟩
    rw [hv] at hr
    subst hr
    refine lv_i2l hx hb dX0_takenAt_7 rfl ?_
    refine r_lst X hL hu (hFl _ hFu) 0 rfl (by decide) (by decide) dX0_takenAt_8 (fun H locs hL h1 h2 => ?_)
    refine lv_goto (tgt := 15) hx hb dX0_takenAt_9 (by decide) ?_
    refine lv_iconst (v := nI 0) hx hb dX0_takenAt_15 (by decide) ?_
    exact vx_ret (r_iret X hL rfl rfl dX0_takenAt_16 (by omega) (by omega) (WP.c0 h0 hv rfl hX hC h1 h2 hFu hKV.gE hFl))
theorem sw_X0_takenAt : SBW yX0_takenAt cX0_takenAt 4 (some .int) [(0, 9, 12, 21)] 3 := ⟨q1776, q98, q1777, ⟨by decide, by decide, by decide +kernel⟩⟩

set_option maxRecDepth 100000 in
set_option maxHeartbeats 4000000 in
theorem ct_X0_scoreOf (l : Launch) (g : GT) (F : Nat → Prop) (S : MS) (n st ln : Nat) (hf hs : Bool) (o : Nat) (i : Int32) (u : Nat) (hl0 : l.stackTraces = false) (hFu : F u) (hFl : ∀ q, F q → gLo g ≤ q) : Cw l g yX0_scoreOf cX0_scoreOf 4 (some .int) [(0, 9, 12, 21)] 11 1 6 [.ref o, .int i, .ref u] (fun H => SkR g F S n st ln hf hs o H ∧ ∃ f, Al g u 1 f H) (WP g F o u (s_one S n i (fun i => scoI (S.1 0) i))) := by
  refine Cw.of (by decide) (Nat.le_of_ble_eq_true rfl) ?_
  intro p e s m args below meth c X hT hP ls hl
  have hx := X.1
  have hb := X.2.1
  have hKV := X.2.2.2.2.2.2.2.1.1
  have hNC : NC s := hKV.2.2.2.2.2.2.2.2.2.2.2.2.2.2
  have hL : ∀ q ∈ ([] : List Loc), gLo g ≤ q.base := fun _ h => by cases h
  obtain ⟨hsk, f, hu⟩ := hP
  have he : ((s_one S n i (fun i => scoI (S.1 0) i))).2.2 = S := by unfold s_one; (repeat' split) <;> rfl
  have hn2 : ¬ ((s_one S n i (fun i => scoI (S.1 0) i))).1 = 2 := by unfold s_one; (try dsimp only); (repeat' split) <;> first | exact fun h => absurd (show (1 : Nat) = 2 from h) (by decide) | exact fun h => absurd (show (0 : Nat) = 2 from h) (by decide)
  have hl : lv_has ls 4 [(0, .ref o), (1, .int i), (2, .ref u)] := hl
  refine lv_aload_n hx hb dX0_scoreOf_0 rfl (lv_at hl 2 rfl) ?_
  refine lv_iconst (v := nI 0) hx hb dX0_scoreOf_1 (by decide) ?_
  refine lv_aload_n hx hb dX0_scoreOf_2 rfl (lv_at hl 0 rfl) ?_
  refine lv_iload_n hx hb dX0_scoreOf_3 rfl (lv_at hl 1 rfl) ?_
  refine Ce.runV (ct_X1_scoreOf l g F S n st ln hf hs o i hl0) X hL hl vb_X1_scoreOf q1785 (hsk.recv hKV) rfl rfl (Nat.le_of_ble_eq_true rfl) dX0_scoreOf_4 ⟨Nat.le_of_ble_eq_true rfl, Nat.le_of_ble_eq_true rfl⟩ (by omega) (by omega) hsk (fun E ce q0 H locs hL hpx hce hcv hcl => ?_) (fun r H locs hL hp => ?_)
  · obtain ⟨hE, hXE⟩ := hpx
    have hX : SkX g F ((s_one S n i (fun i => scoI (S.1 0) i))).2.2 o H := by rw [he]; exact (hsk.ext hXE).x
    have hC : Chg (fun q => ¬ F q) s.heap H := hXE.chg
    have hu := hu.chg hC (fun y => y hFu)
    rcases hE with ⟨rfl, hk⟩ | ⟨rfl, hk⟩
    ·
      refine r_catch1 X hT rfl (by decide) q1368 q1043 hce hcv hcl ?_
      refine lv_astore_n (lv' := [(3, .ref _), (0, .ref _), (1, .int _), (2, .ref _)]) hx hb dX0_scoreOf_12 rfl hl (by decide) rfl (fun ls hl => ?_)
      refine lv_iconst (v := nI 1) hx hb dX0_scoreOf_13 (by decide) ?_
      exact vx_ret (r_iret X hL rfl rfl dX0_scoreOf_14 (by omega) (by omega) (WP.cx hk (by decide) hX hC hu))
    ·
      exact absurd hk hn2
  · obtain ⟨h0, hr, hXE⟩ := hp
    have hX : SkX g F ((s_one S n i (fun i => scoI (S.1 0) i))).2.2 o H := by rw [he]; exact (hsk.ext hXE).x
    have hC : Chg (fun q => ¬ F q) s.heap H := hXE.chg
    have hu := hu.chg hC (fun y => y hFu)
    obtain ⟨v0, hv⟩ : ∃ v9, ((s_one S n i (fun i => scoI (S.1 0) i))).2.1 = some (.int v9) := by unfold s_one; (repeat' split) <;> exact ⟨_, rfl⟩
    rw [hv] at hr
    subst hr
    refine lv_i2l hx hb dX0_scoreOf_7 rfl ?_
    refine r_lst X hL hu (hFl _ hFu) 0 rfl (by decide) (by decide) dX0_scoreOf_8 (fun H locs hL h1 h2 => ?_)
    refine lv_goto (tgt := 15) hx hb dX0_scoreOf_9 (by decide) ?_
    refine lv_iconst (v := nI 0) hx hb dX0_scoreOf_15 (by decide) ?_
    exact vx_ret (r_iret X hL rfl rfl dX0_scoreOf_16 (by omega) (by omega) (WP.c0 h0 hv rfl hX hC h1 h2 hFu hKV.gE hFl))
theorem sw_X0_scoreOf : SBW yX0_scoreOf cX0_scoreOf 4 (some .int) [(0, 9, 12, 21)] 3 := ⟨q1783, q98, q1784, ⟨by decide, by decide, by decide +kernel⟩⟩

set_option maxRecDepth 100000 in
set_option maxHeartbeats 4000000 in
theorem ct_X0_byScore (l : Launch) (g : GT) (F : Nat → Prop) (S : MS) (n st ln : Nat) (hf hs : Bool) (o : Nat) (i : Int32) (u : Nat) (hl0 : l.stackTraces = false) (hFu : F u) (hFl : ∀ q, F q → gLo g ≤ q) : Cw l g yX0_byScore cX0_byScore 4 (some .int) [(0, 9, 12, 21)] 17 19 289 [.ref o, .int i, .ref u] (fun H => SkR g F S n st ln hf hs o H ∧ ∃ f, Al g u 1 f H) (WP g F o u (s_fst S (fstI (fun k => cB (S.1 0) k && decide (nI (rnkN (S.1 0) n k) = i)) n))) := by
  refine Cw.of (by decide) (Nat.le_of_ble_eq_true rfl) ?_
  intro p e s m args below meth c X hT hP ls hl
  have hx := X.1
  have hb := X.2.1
  have hKV := X.2.2.2.2.2.2.2.1.1
  have hNC : NC s := hKV.2.2.2.2.2.2.2.2.2.2.2.2.2.2
  have hL : ∀ q ∈ ([] : List Loc), gLo g ≤ q.base := fun _ h => by cases h
  obtain ⟨hsk, f, hu⟩ := hP
  have he : ((s_fst S (fstI (fun k => cB (S.1 0) k && decide (nI (rnkN (S.1 0) n k) = i)) n))).2.2 = S := by unfold s_fst; (repeat' split) <;> rfl
  have hn2 : ¬ ((s_fst S (fstI (fun k => cB (S.1 0) k && decide (nI (rnkN (S.1 0) n k) = i)) n))).1 = 2 := by unfold s_fst; (try dsimp only); (repeat' split) <;> first | exact fun h => absurd (show (1 : Nat) = 2 from h) (by decide) | exact fun h => absurd (show (0 : Nat) = 2 from h) (by decide)
  have hl : lv_has ls 4 [(0, .ref o), (1, .int i), (2, .ref u)] := hl
  refine lv_aload_n hx hb dX0_byScore_0 rfl (lv_at hl 2 rfl) ?_
  refine lv_iconst (v := nI 0) hx hb dX0_byScore_1 (by decide) ?_
  refine lv_aload_n hx hb dX0_byScore_2 rfl (lv_at hl 0 rfl) ?_
  refine lv_iload_n hx hb dX0_byScore_3 rfl (lv_at hl 1 rfl) ?_
  refine Ce.runV (ct_X1_byScore l g F S n st ln hf hs o i hl0) X hL hl vb_X1_byScore q1792 (hsk.recv hKV) rfl rfl (Nat.le_of_ble_eq_true rfl) dX0_byScore_4 ⟨Nat.le_of_ble_eq_true rfl, Nat.le_of_ble_eq_true rfl⟩ (by omega) (by omega) hsk (fun E ce q0 H locs hL hpx hce hcv hcl => ?_) (fun r H locs hL hp => ?_)
  · obtain ⟨hE, hXE⟩ := hpx
    have hX : SkX g F ((s_fst S (fstI (fun k => cB (S.1 0) k && decide (nI (rnkN (S.1 0) n k) = i)) n))).2.2 o H := by rw [he]; exact (hsk.ext hXE).x
    have hC : Chg (fun q => ¬ F q) s.heap H := hXE.chg
    have hu := hu.chg hC (fun y => y hFu)
    rcases hE with ⟨rfl, hk⟩ | ⟨rfl, hk⟩
    ·
      refine r_catch1 X hT rfl (by decide) q1368 q1043 hce hcv hcl ?_
      refine lv_astore_n (lv' := [(3, .ref _), (0, .ref _), (1, .int _), (2, .ref _)]) hx hb dX0_byScore_12 rfl hl (by decide) rfl (fun ls hl => ?_)
      refine lv_iconst (v := nI 1) hx hb dX0_byScore_13 (by decide) ?_
      exact vx_ret (r_iret X hL rfl rfl dX0_byScore_14 (by omega) (by omega) (WP.cx hk (by decide) hX hC hu))
    ·
      exact absurd hk hn2
  · obtain ⟨h0, hr, hXE⟩ := hp
    have hX : SkX g F ((s_fst S (fstI (fun k => cB (S.1 0) k && decide (nI (rnkN (S.1 0) n k) = i)) n))).2.2 o H := by rw [he]; exact (hsk.ext hXE).x
    have hC : Chg (fun q => ¬ F q) s.heap H := hXE.chg
    have hu := hu.chg hC (fun y => y hFu)
    obtain ⟨v0, hv⟩ : ∃ v9, ((s_fst S (fstI (fun k => cB (S.1 0) k && decide (nI (rnkN (S.1 0) n k) = i)) n))).2.1 = some (.int v9) := by unfold s_fst; (repeat' split) <;> exact ⟨_, rfl⟩
    rw [hv] at hr
    subst hr
    refine lv_i2l hx hb dX0_byScore_7 rfl ?_
    refine r_lst X hL hu (hFl _ hFu) 0 rfl (by decide) (by decide) dX0_byScore_8 (fun H locs hL h1 h2 => ?_)
    refine lv_goto (tgt := 15) hx hb dX0_byScore_9 (by decide) ?_
    refine lv_iconst (v := nI 0) hx hb dX0_byScore_15 (by decide) ?_
    exact vx_ret (r_iret X hL rfl rfl dX0_byScore_16 (by omega) (by omega) (WP.c0 h0 hv rfl hX hC h1 h2 hFu hKV.gE hFl))
theorem sw_X0_byScore : SBW yX0_byScore cX0_byScore 4 (some .int) [(0, 9, 12, 21)] 3 := ⟨q1790, q98, q1791, ⟨by decide, by decide, by decide +kernel⟩⟩

set_option maxRecDepth 100000 in
set_option maxHeartbeats 4000000 in
theorem ct_X0_reachByPairs (l : Launch) (g : GT) (F : Nat → Prop) (S : MS) (n st ln : Nat) (hf hs : Bool) (o : Nat) (a b : Int32) (u : Nat) (hl0 : l.stackTraces = false) (hFu : F u) (hFl : ∀ q, F q → gLo g ≤ q) : Cw l g yX0_reachByPairs cX0_reachByPairs 5 (some .int) [(0, 10, 13, 21), (0, 10, 17, 13)] 16 11 153 [.ref o, .int a, .int b, .ref u] (fun H => SkR g F S n st ln hf hs o H ∧ ∃ f, Al g u 1 f H) (WP g F o u (s_reach S n a b)) := by
  refine Cw.of (by decide) (Nat.le_of_ble_eq_true rfl) ?_
  intro p e s m args below meth c X hT hP ls hl
  have hx := X.1
  have hb := X.2.1
  have hKV := X.2.2.2.2.2.2.2.1.1
  have hNC : NC s := hKV.2.2.2.2.2.2.2.2.2.2.2.2.2.2
  have hL : ∀ q ∈ ([] : List Loc), gLo g ≤ q.base := fun _ h => by cases h
  obtain ⟨hsk, f, hu⟩ := hP
  have he : ((s_reach S n a b)).2.2 = S := by unfold s_reach; (repeat' split) <;> rfl
  have hl : lv_has ls 5 [(0, .ref o), (1, .int a), (2, .int b), (3, .ref u)] := hl
  refine lv_aload_n hx hb dX0_reachByPairs_0 rfl (lv_at hl 3 rfl) ?_
  refine lv_iconst (v := nI 0) hx hb dX0_reachByPairs_1 (by decide) ?_
  refine lv_aload_n hx hb dX0_reachByPairs_2 rfl (lv_at hl 0 rfl) ?_
  refine lv_iload_n hx hb dX0_reachByPairs_3 rfl (lv_at hl 1 rfl) ?_
  refine lv_iload_n hx hb dX0_reachByPairs_4 rfl (lv_at hl 2 rfl) ?_
  refine Ce.runV (ct_X1_reachByPairs l g F S n st ln hf hs o a b hl0) X hL hl vb_X1_reachByPairs q1799 (hsk.recv hKV) rfl rfl (Nat.le_of_ble_eq_true rfl) dX0_reachByPairs_5 ⟨Nat.le_of_ble_eq_true rfl, Nat.le_of_ble_eq_true rfl⟩ (by omega) (by omega) hsk (fun E ce q0 H locs hL hpx hce hcv hcl => ?_) (fun r H locs hL hp => ?_)
  · obtain ⟨hE, hXE⟩ := hpx
    have hX : SkX g F ((s_reach S n a b)).2.2 o H := by rw [he]; exact (hsk.ext hXE).x
    have hC : Chg (fun q => ¬ F q) s.heap H := hXE.chg
    have hu := hu.chg hC (fun y => y hFu)
    rcases hE with ⟨rfl, hk⟩ | ⟨rfl, hk⟩
    ·
      refine r_catch1 X hT rfl (by decide) q1368 q1043 hce hcv hcl ?_
      refine lv_astore (lv' := [(4, .ref _), (0, .ref _), (1, .int _), (2, .int _), (3, .ref _)]) hx hb dX0_reachByPairs_13 hl (by decide) rfl (fun ls hl => ?_)
      refine lv_iconst (v := nI 1) hx hb dX0_reachByPairs_15 (by decide) ?_
      exact vx_ret (r_iret X hL rfl rfl dX0_reachByPairs_16 (by omega) (by omega) (WP.cx hk (by decide) hX hC hu))
    ·
      refine r_catch2 X hT rfl (by decide) (by decide) q1310 q1368 hNC.2.1 q804 hce hcv hcl ?_
      refine lv_astore (lv' := [(4, .ref _), (0, .ref _), (1, .int _), (2, .int _), (3, .ref _)]) hx hb dX0_reachByPairs_17 hl (by decide) rfl (fun ls hl => ?_)
      refine lv_iconst (v := nI 2) hx hb dX0_reachByPairs_19 (by decide) ?_
      exact vx_ret (r_iret X hL rfl rfl dX0_reachByPairs_20 (by omega) (by omega) (WP.cx hk (by decide) hX hC hu))
  · obtain ⟨h0, hr, hXE⟩ := hp
    have hX : SkX g F ((s_reach S n a b)).2.2 o H := by rw [he]; exact (hsk.ext hXE).x
    have hC : Chg (fun q => ¬ F q) s.heap H := hXE.chg
    have hu := hu.chg hC (fun y => y hFu)
    obtain ⟨v0, hv⟩ : ∃ v9, ((s_reach S n a b)).2.1 = some (.int v9) := by unfold s_reach; (repeat' split) <;> exact ⟨_, rfl⟩
    rw [hv] at hr
    subst hr
    refine lv_i2l hx hb dX0_reachByPairs_8 rfl ?_
    refine r_lst X hL hu (hFl _ hFu) 0 rfl (by decide) (by decide) dX0_reachByPairs_9 (fun H locs hL h1 h2 => ?_)
    refine lv_goto (tgt := 21) hx hb dX0_reachByPairs_10 (by decide) ?_
    refine lv_iconst (v := nI 0) hx hb dX0_reachByPairs_21 (by decide) ?_
    exact vx_ret (r_iret X hL rfl rfl dX0_reachByPairs_22 (by omega) (by omega) (WP.c0 h0 hv rfl hX hC h1 h2 hFu hKV.gE hFl))
theorem sw_X0_reachByPairs : SBW yX0_reachByPairs cX0_reachByPairs 5 (some .int) [(0, 10, 13, 21), (0, 10, 17, 13)] 4 := ⟨q1797, q98, q1798, ⟨by decide, by decide, by decide +kernel⟩⟩

set_option maxRecDepth 100000 in
set_option maxHeartbeats 4000000 in
theorem ct_X0_reachBySteps (l : Launch) (g : GT) (F : Nat → Prop) (S : MS) (n st ln : Nat) (hf hs : Bool) (o : Nat) (a b : Int32) (u : Nat) (hl0 : l.stackTraces = false) (hFu : F u) (hFl : ∀ q, F q → gLo g ≤ q) : Cw l g yX0_reachBySteps cX0_reachBySteps 5 (some .int) [(0, 10, 13, 21), (0, 10, 17, 13)] 16 11 153 [.ref o, .int a, .int b, .ref u] (fun H => SkR g F S n st ln hf hs o H ∧ ∃ f, Al g u 1 f H) (WP g F o u (s_reach S n a b)) := by
  refine Cw.of (by decide) (Nat.le_of_ble_eq_true rfl) ?_
  intro p e s m args below meth c X hT hP ls hl
  have hx := X.1
  have hb := X.2.1
  have hKV := X.2.2.2.2.2.2.2.1.1
  have hNC : NC s := hKV.2.2.2.2.2.2.2.2.2.2.2.2.2.2
  have hL : ∀ q ∈ ([] : List Loc), gLo g ≤ q.base := fun _ h => by cases h
  obtain ⟨hsk, f, hu⟩ := hP
  have he : ((s_reach S n a b)).2.2 = S := by unfold s_reach; (repeat' split) <;> rfl
  have hl : lv_has ls 5 [(0, .ref o), (1, .int a), (2, .int b), (3, .ref u)] := hl
  refine lv_aload_n hx hb dX0_reachBySteps_0 rfl (lv_at hl 3 rfl) ?_
  refine lv_iconst (v := nI 0) hx hb dX0_reachBySteps_1 (by decide) ?_
  refine lv_aload_n hx hb dX0_reachBySteps_2 rfl (lv_at hl 0 rfl) ?_
  refine lv_iload_n hx hb dX0_reachBySteps_3 rfl (lv_at hl 1 rfl) ?_
  refine lv_iload_n hx hb dX0_reachBySteps_4 rfl (lv_at hl 2 rfl) ?_
  refine Ce.runV (ct_X1_reachBySteps l g F S n st ln hf hs o a b hl0) X hL hl vb_X1_reachBySteps q1809 (hsk.recv hKV) rfl rfl (Nat.le_of_ble_eq_true rfl) dX0_reachBySteps_5 ⟨Nat.le_of_ble_eq_true rfl, Nat.le_of_ble_eq_true rfl⟩ (by omega) (by omega) hsk (fun E ce q0 H locs hL hpx hce hcv hcl => ?_) (fun r H locs hL hp => ?_)
  · obtain ⟨hE, hXE⟩ := hpx
    have hX : SkX g F ((s_reach S n a b)).2.2 o H := by rw [he]; exact (hsk.ext hXE).x
    have hC : Chg (fun q => ¬ F q) s.heap H := hXE.chg
    have hu := hu.chg hC (fun y => y hFu)
    rcases hE with ⟨rfl, hk⟩ | ⟨rfl, hk⟩
    ·
      refine r_catch1 X hT rfl (by decide) q1368 q1043 hce hcv hcl ?_
      refine lv_astore (lv' := [(4, .ref _), (0, .ref _), (1, .int _), (2, .int _), (3, .ref _)]) hx hb dX0_reachBySteps_13 hl (by decide) rfl (fun ls hl => ?_)
      refine lv_iconst (v := nI 1) hx hb dX0_reachBySteps_15 (by decide) ?_
      exact vx_ret (r_iret X hL rfl rfl dX0_reachBySteps_16 (by omega) (by omega) (WP.cx hk (by decide) hX hC hu))
    ·
      refine r_catch2 X hT rfl (by decide) (by decide) q1310 q1368 hNC.2.1 q804 hce hcv hcl ?_
      refine lv_astore (lv' := [(4, .ref _), (0, .ref _), (1, .int _), (2, .int _), (3, .ref _)]) hx hb dX0_reachBySteps_17 hl (by decide) rfl (fun ls hl => ?_)
      refine lv_iconst (v := nI 2) hx hb dX0_reachBySteps_19 (by decide) ?_
      exact vx_ret (r_iret X hL rfl rfl dX0_reachBySteps_20 (by omega) (by omega) (WP.cx hk (by decide) hX hC hu))
  · obtain ⟨h0, hr, hXE⟩ := hp
    have hX : SkX g F ((s_reach S n a b)).2.2 o H := by rw [he]; exact (hsk.ext hXE).x
    have hC : Chg (fun q => ¬ F q) s.heap H := hXE.chg
    have hu := hu.chg hC (fun y => y hFu)
    obtain ⟨v0, hv⟩ : ∃ v9, ((s_reach S n a b)).2.1 = some (.int v9) := by unfold s_reach; (repeat' split) <;> exact ⟨_, rfl⟩
    rw [hv] at hr
    subst hr
    refine lv_i2l hx hb dX0_reachBySteps_8 rfl ?_
    refine r_lst X hL hu (hFl _ hFu) 0 rfl (by decide) (by decide) dX0_reachBySteps_9 (fun H locs hL h1 h2 => ?_)
    refine lv_goto (tgt := 21) hx hb dX0_reachBySteps_10 (by decide) ?_
    refine lv_iconst (v := nI 0) hx hb dX0_reachBySteps_21 (by decide) ?_
    exact vx_ret (r_iret X hL rfl rfl dX0_reachBySteps_22 (by omega) (by omega) (WP.c0 h0 hv rfl hX hC h1 h2 hFu hKV.gE hFl))
theorem sw_X0_reachBySteps : SBW yX0_reachBySteps cX0_reachBySteps 5 (some .int) [(0, 10, 13, 21), (0, 10, 17, 13)] 4 := ⟨q1807, q98, q1808, ⟨by decide, by decide, by decide +kernel⟩⟩
