/-! the state changed -/
theorem OffR.to {g : GT} {I J : Nat → Prop} {f h : Nat → Int32} {a : Nat} {H : Heap} (x : OffR g I f a H) (e : ∀ j, j < 4 → f j = h j) (hJ : ∀ q, I q → J q) : OffR g J h a H := by
  obtain ⟨v, h1, h2, h3, h4, h5, h6⟩ := x
  exact ⟨v, hJ _ h1, hJ _ h2, h3, h4, h5, h6.to e⟩
theorem OffR.mem {g : GT} {I : Nat → Prop} {f : Nat → Int32} {a : Nat} {H : Heap} (x : OffR g I f a H) : I a ∧ a < H.size ∧ gLo g ≤ a ∧ ∃ fs, Ob g a 5 fs H := by
  obtain ⟨v, h1, h2, h3, h4, h5, h6⟩ := x
  exact ⟨h1, h5.lt, h3, _, h5⟩
theorem addR_lo (r : Nat → Int32) (f : Nat → Int32) {n j q : Nat} (hn : n < 40) (hj : j < n) (hq : q < 4) : mv (addR r n (f 0) (f 1) (f 2) (f 3)) j q = mv r j q := by
  unfold mv addR
  repeat rw [upd_n _ _ (by omega)]
theorem addR_n (r : Nat → Int32) (f : Nat → Int32) {n q : Nat} (hn : n < 40) (hq : q < 4) : mv (addR r n (f 0) (f 1) (f 2) (f 3)) n q = f q := by
  have h1 : q = 0 ∨ q = 1 ∨ q = 2 ∨ q = 3 := by omega
  unfold mv addR
  rcases h1 with rfl | rfl | rfl | rfl
  · rw [upd_n _ _ (by omega), upd_n _ _ (by omega), upd_n _ _ (by omega), upd_n _ _ (by omega), upd_n _ _ (by omega), Nat.add_zero, upd_s]
  · rw [upd_n _ _ (by omega), upd_n _ _ (by omega), upd_n _ _ (by omega), upd_n _ _ (by omega), upd_s]
  · rw [upd_n _ _ (by omega), upd_n _ _ (by omega), upd_n _ _ (by omega), upd_s]
  · rw [upd_n _ _ (by omega), upd_n _ _ (by omega), upd_s]
theorem addR_hi (r : Nat → Int32) {n k : Nat} (a b c d : Int32) (hn : n < 40) (hk : 161 ≤ k) (hk2 : k ≠ 177) : addR r n a b c d k = r k := by
  unfold addR
  rw [upd_n _ _ hk2, upd_n _ _ (by omega), upd_n _ _ (by omega), upd_n _ _ (by omega), upd_n _ _ (by omega), upd_n _ _ (by omega)]
theorem addR_177 (r : Nat → Int32) (n : Nat) (a b c d : Int32) : addR r n a b c d 177 = r 177 + nI 1 := by unfold addR; rw [upd_s]
theorem up_inj {x : Nat → Nat} {n q : Nat} (h : ∀ i j, i < n → j < n → x i = x j → i = j) (hq : ∀ j, j < n → x j ≠ q) : ∀ i j, i < n + 1 → j < n + 1 → va_up x n q i = va_up x n q j → i = j := fun i j hi hj e => by
  unfold va_up at e
  by_cases a : i = n <;> by_cases b : j = n
  · omega
  · rw [if_pos a, if_neg b] at e; exact absurd e.symm (hq j (by omega))
  · rw [if_neg a, if_pos b] at e; exact absurd e (hq i (by omega))
  · rw [if_neg a, if_neg b] at e; exact h i j (by omega) (by omega) e
theorem delR_mv (r : Nat → Int32) {n i j q : Nat} (hn : n ≤ 40) (hi : i < n) (hj : j < n - 1) (hq : q < 4) : mv (delR r n i) j q = mv r (if j < i then j else j + 1) q := by
  unfold mv delR
  rw [upd_n _ _ (by omega), upd_n _ _ (by omega)]
  unfold remR
  by_cases a : j < i
  · rw [if_neg (by omega), if_pos a]
  · rw [if_pos (by omega), if_neg a]; congr 1; omega
theorem delR_hi (r : Nat → Int32) {n i k : Nat} (hn : n ≤ 40) (hk : 161 ≤ k) (hk2 : k ≠ 178) : delR r n i k = r k := by
  unfold delR
  rw [upd_n _ _ hk2, upd_n _ _ (by omega), remR_l _ (by omega)]
theorem delR_178 (r : Nat → Int32) (n i : Nat) : delR r n i 178 = r 178 + nI 1 := by unfold delR; rw [upd_s]
theorem rem_inj {x : Nat → Nat} {n i : Nat} (h : ∀ i j, i < n → j < n → x i = x j → i = j) : ∀ a b, a < n - 1 → b < n - 1 → remN x i a = remN x i b → a = b := fun a b ha hb e => by
  unfold remN at e
  by_cases p : a < i <;> by_cases q : b < i
  · rw [if_pos p, if_pos q] at e; exact h a b (by omega) (by omega) e
  · rw [if_pos p, if_neg q] at e; have := h a (b + 1) (by omega) (by omega) e; omega
  · rw [if_neg p, if_pos q] at e; have := h (a + 1) b (by omega) (by omega) e; omega
  · rw [if_neg p, if_neg q] at e; have := h (a + 1) (b + 1) (by omega) (by omega) e; omega

theorem adds_of {g : GT} {P I : Nat → Prop} {ro f x : Nat → _} {n q : Nat} {H H1 : Heap} (hn : n < 40) (hC : Chg P H H1) (hI : ∀ q, I q → ¬ P q) (hofs : ∀ j, j < n → OffR g I (mv ro j) (x j) H) (hq : OffR g I f q H) : ∀ j, j < n + 1 → OffR g I (mv (addR ro n (f 0) (f 1) (f 2) (f 3)) j) (va_up x n q j) H1 := fun j hj => by
  unfold va_up
  by_cases e : j = n
  · rw [if_pos e, e]; exact (hq.keep hC hI).to (fun z hz => (addR_n ro f hn hz).symm) (fun _ z => z)
  · rw [if_neg e]; exact ((hofs j (by omega)).keep hC hI).to (fun z hz => (addR_lo ro f hn (by omega) hz).symm) (fun _ z => z)
theorem rem_of {g : GT} {P I : Nat → Prop} {ro x : Nat → _} {n i : Nat} {H H1 : Heap} (hn : n ≤ 40) (hi : i < n) (hC : Chg P H H1) (hI : ∀ q, I q → ¬ P q) (hofs : ∀ j, j < n → OffR g I (mv ro j) (x j) H) : ∀ j, j < n - 1 → OffR g I (mv (delR ro n i) j) (remN x i j) H1 := fun j hj => by
  have h := ((hofs (if j < i then j else j + 1) (by split <;> omega)).keep hC hI).to (fun z hz => (delR_mv ro hn hi hj hz).symm) (fun _ z => z)
  have e : remN x i j = x (if j < i then j else j + 1) := by unfold remN; split <;> rfl
  rw [e]; exact h

set_option maxRecDepth 100000 in
set_option maxHeartbeats 4000000 in
theorem ct_X2_adds (l : Launch) (g : GT) (P I : Nat → Prop) (ro : Nat → Int32) (n : Nat) (x : Nat → Nat) (a : Nat) (f : Nat → Int32) (q : Nat) (hI : ∀ q, I q → ¬ P q) (hE0 : ¬ P (gE g)) (hn40 : n < 40) (hqx : ∀ j, j < n → x j ≠ q) : Ct l g yX2_adds cX2_adds 2 (some .int) 9 1 100 [.ref a, .ref q] (fun H => StR g P I ro n x a H ∧ OffR g I f q H ∧ ∀ q, H.size ≤ q → P q) (fun r H H1 => r = some (.int (nI n)) ∧ StR g P I (addR ro n (f 0) (f 1) (f 2) (f 3)) (n + 1) (va_up x n q) a H1 ∧ Chg P H H1) := by
  refine Ct.of (by decide) (Nat.le_of_ble_eq_true rfl) ?_
  intro p e s m args below meth c X hP ls hl
  have hx := X.1
  have hb := X.2.1
  have hKV := X.2.2.2.2.2.2.2.1.1
  have hL : ∀ q ∈ ([] : List Loc), gLo g ≤ q.base := fun _ h => by cases h
  obtain ⟨hst, hq, hPn⟩ := hP
  obtain ⟨b, sd, SS, hPa, loa, hSa, hSP, ob, hbg, hsd, hofs, hinj, h160, hn⟩ := hst
  obtain ⟨al, pb, lb, obb, hls⟩ := hbg
  obtain ⟨cap, hK⟩ := hls.k
  have hl : lv_has ls 2 [(0, .ref a), (1, .ref q)] := hl
  have hC : Chg P s.heap s.heap := Chg.rfl'
  have hal := ob.lt
  obtain ⟨iq, lq, gq, oq⟩ := hq.mem
  refine lv_aload_n hx hb dX2_adds_0 rfl (lv_at hl 0 rfl) ?_
  refine r_get (C := RX2) (T := TX2) (N := 4) (ci := 2) X in_X2 rfl 0 (Nat.le_of_ble_eq_true rfl) q210 (fun _ h => h) ob rfl dX2_adds_1 ?_
  refine lv_aload_n hx hb dX2_adds_4 rfl (lv_at hl 1 rfl) ?_
  refine Ct.callV (ct_X3_adds l g (fun q => P q ∧ q ≠ a ∧ ¬ SS q) x n cap b al q 1 100 (by omega) pb (fun z => hI q iq z.1) (Or.inr ⟨Nat.le_refl _, by unfold nxC; split <;> omega⟩)) X hL hl vb_X3_adds q1064 (obb.recv hKV rfl) rfl rfl (Nat.le_of_ble_eq_true rfl) dX2_adds_5 ⟨Nat.le_of_ble_eq_true rfl, Nat.le_of_ble_eq_true rfl⟩ (by omega) (by omega) ⟨⟨obb, hK, fun j hj => ⟨fun z => hI _ (hofs j hj).mem.1 z.1, (hofs j hj).mem.2.2.2⟩, oq⟩, fun q hq => ⟨hPn q hq, by omega, fun z => by have := (hSP q z).2; omega⟩⟩ (fun r H locs hL hp => ?_)
  obtain ⟨rfl, obb, hK, hC0⟩ := hp
  have ob := ob.chg hC0 (fun z => z.2.1 rfl)
  have hsd := hsd.keep hC0 (fun q hq z => z.2.2 hq)
  have hC := hC.trans (hC0.mono (fun q z => z.1))
  have hbg : BagR g (fun q => P q ∧ q ≠ a ∧ ¬ SS q) (va_up x n q) (n + 1) b H := ⟨al, pb, lb, obb, hK.lst⟩
  refine lv_aload_n hx hb dX2_adds_8 rfl (lv_at hl 0 rfl) ?_
  refine lv_dup hx hb dX2_adds_9 rfl ?_
  refine r_get (C := RX2) (T := TX2) (N := 4) (ci := 2) X in_X2 rfl 2 (Nat.le_of_ble_eq_true rfl) q214 (fun _ h => h) ob rfl dX2_adds_10 ?_
  refine lv_iconst (v := nI 1) hx hb dX2_adds_13 (by decide) ?_
  refine lv_iadd hx hb dX2_adds_14 ?_
  refine r_put (C := RX2) (T := TX2) (N := 4) (ci := 2) X in_X2 tyX2 tyX2_ok nmX2 rfl 2 (Nat.le_of_ble_eq_true rfl) q214 (fun _ h => h) rfl hL ob loa rfl rfl (Nat.le_of_ble_eq_true rfl) dX2_adds_15 (fun H locs hL h1 h2 => ?_)
  have ob : Ob g a 2 [.ref b, .ref sd, .int (ro 177 + nI 1), .int (ro 178)] H := h1
  have hC := hC.trans (h2.chg hPa)
  have hsd := hsd.keep (Q := fun q => q = a) (h2.chg rfl) (fun q hq z => hSa (z ▸ hq))
  have hbg := hbg.keep (Q := fun q => q = a) (h2.chg rfl) (fun q hq z => hq.2.1 z) (fun z => by have := hKV.gE; omega)
  refine lv_aload_n hx hb dX2_adds_18 rfl (lv_at hl 0 rfl) ?_
  refine r_get (C := RX2) (T := TX2) (N := 4) (ci := 2) X in_X2 rfl 0 (Nat.le_of_ble_eq_true rfl) q210 (fun _ h => h) ob rfl dX2_adds_19 ?_
  refine Cp.callV (v := .int (nI (n + 1))) (ct_X3_size l g (fun q => P q ∧ q ≠ a ∧ ¬ SS q) (va_up x n q) (n + 1) b ) X hL hl vb_X3_size q564 (hbg.recv hKV) rfl rfl (Nat.le_of_ble_eq_true rfl) dX2_adds_22 ⟨Nat.le_of_ble_eq_true rfl, Nat.le_of_ble_eq_true rfl⟩ (by omega) (by omega) hbg (fun locs hL => ?_)
  refine lv_iconst (v := nI 1) hx hb dX2_adds_25 (by decide) ?_
  refine n_isub X (by omega) dX2_adds_26 ?_
  exact r_iret X hL rfl rfl dX2_adds_27 (by omega) (by omega) ⟨by rw [Nat.add_sub_cancel], ⟨b, sd, SS, hPa, loa, hSa, fun q hq => ⟨(hSP q hq).1, Nat.lt_of_lt_of_le (hSP q hq).2 hC.1⟩, by rw [addR_177, addR_hi _ _ _ _ _ hn40 (by omega) (by omega)]; exact ob, hbg, hsd.to (fun j h1 h2 => (addR_hi ro _ _ _ _ hn40 (by omega) (by omega)).symm) (fun _ z _ => z), adds_of hn40 hC hI hofs hq, up_inj hinj hqx, addR_160 _ _ _ _ _ _, by omega⟩, hC⟩
theorem vb_X2_adds : VB yX2_adds cX2_adds 2 (some .int) 1 := ⟨q1362, q1363, q100, q1364, ⟨by decide, by decide, by decide +kernel⟩⟩

set_option maxRecDepth 100000 in
set_option maxHeartbeats 4000000 in
theorem ct_X2_removes (l : Launch) (g : GT) (P I : Nat → Prop) (ro : Nat → Int32) (n : Nat) (x : Nat → Nat) (a : Nat) (i : Nat) (hI : ∀ q, I q → ¬ P q) (hE0 : ¬ P (gE g)) (hi : i < n) : Ct l g yX2_removes cX2_removes 3 (some .int) 7 0 0 [.ref a, .int (nI i)] (StR g P I ro n x a) (fun r H H1 => r = some (.int (nI (n - 1))) ∧ StR g P I (delR ro n i) (n - 1) (remN x i) a H1 ∧ Chg P H H1) := by
  refine Ct.of (by decide) (Nat.le_of_ble_eq_true rfl) ?_
  intro p e s m args below meth c X hP ls hl
  have hx := X.1
  have hb := X.2.1
  have hKV := X.2.2.2.2.2.2.2.1.1
  have hL : ∀ q ∈ ([] : List Loc), gLo g ≤ q.base := fun _ h => by cases h
  have hst := hP
  obtain ⟨b, sd, SS, hPa, loa, hSa, hSP, ob, hbg, hsd, hofs, hinj, h160, hn⟩ := hst
  have hl : lv_has ls 3 [(0, .ref a), (1, .int (nI i))] := hl
  have hC : Chg P s.heap s.heap := Chg.rfl'
  have hal := ob.lt
  obtain ⟨fqi, oqi⟩ := (hofs i hi).mem.2.2.2
  refine lv_aload_n hx hb dX2_removes_0 rfl (lv_at hl 0 rfl) ?_
  refine r_get (C := RX2) (T := TX2) (N := 4) (ci := 2) X in_X2 rfl 0 (Nat.le_of_ble_eq_true rfl) q210 (fun _ h => h) ob rfl dX2_removes_1 ?_
  refine lv_iload_n hx hb dX2_removes_4 rfl (lv_at hl 1 rfl) ?_
  refine Ct.callV (ct_X3_takes l g (fun q => P q ∧ q ≠ a ∧ ¬ SS q) x n b i hi) X hL hl vb_X3_takes q1392 (hbg.recv hKV) rfl rfl (Nat.le_of_ble_eq_true rfl) dX2_removes_5 ⟨Nat.le_of_ble_eq_true rfl, Nat.le_of_ble_eq_true rfl⟩ (by omega) (by omega) ⟨hbg, fun j hj => ⟨fun z => hI _ (hofs j hj).mem.1 z.1, (hofs j hj).mem.2.2.2⟩⟩ (fun r H locs hL hp => ?_)
  obtain ⟨rfl, hbg, hC0⟩ := hp
  have ob := ob.chg hC0 (fun z => z.2.1 rfl)
  have oqi := oqi.chg hC0 (fun z => hI _ (hofs i hi).mem.1 z.1)
  have hsd := hsd.keep hC0 (fun q hq z => z.2.2 hq)
  have hC := hC.trans (hC0.mono (fun q z => z.1))
  refine r_cast (ci := 5) X rfl oqi q572 dX2_removes_8 ?_
  refine lv_astore_n (lv' := [(2, .ref _), (0, .ref _), (1, .int _)]) hx hb dX2_removes_11 rfl hl (by decide) rfl (fun ls hl => ?_)
  refine lv_aload_n hx hb dX2_removes_12 rfl (lv_at hl 1 rfl) ?_
  refine lv_dup hx hb dX2_removes_13 rfl ?_
  refine r_get (C := RX2) (T := TX2) (N := 4) (ci := 2) X in_X2 rfl 3 (Nat.le_of_ble_eq_true rfl) q216 (fun _ h => h) ob rfl dX2_removes_14 ?_
  refine lv_iconst (v := nI 1) hx hb dX2_removes_17 (by decide) ?_
  refine lv_iadd hx hb dX2_removes_18 ?_
  refine r_put (C := RX2) (T := TX2) (N := 4) (ci := 2) X in_X2 tyX2 tyX2_ok nmX2 rfl 3 (Nat.le_of_ble_eq_true rfl) q216 (fun _ h => h) rfl hL ob loa rfl rfl (Nat.le_of_ble_eq_true rfl) dX2_removes_19 (fun H locs hL h1 h2 => ?_)
  have ob : Ob g a 2 [.ref b, .ref sd, .int (ro 177), .int (ro 178 + nI 1)] H := h1
  have hC := hC.trans (h2.chg hPa)
  have hsd := hsd.keep (Q := fun q => q = a) (h2.chg rfl) (fun q hq z => hSa (z ▸ hq))
  have hbg := hbg.keep (Q := fun q => q = a) (h2.chg rfl) (fun q hq z => hq.2.1 z) (fun z => by have := hKV.gE; omega)
  refine lv_aload_n hx hb dX2_removes_22 rfl (lv_at hl 1 rfl) ?_
  refine r_get (C := RX2) (T := TX2) (N := 4) (ci := 2) X in_X2 rfl 0 (Nat.le_of_ble_eq_true rfl) q210 (fun _ h => h) ob rfl dX2_removes_23 ?_
  refine Cp.callV (v := .int (nI (n - 1))) (ct_X3_size l g (fun q => P q ∧ q ≠ a ∧ ¬ SS q) (remN x i) (n - 1) b ) X hL hl vb_X3_size q564 (hbg.recv hKV) rfl rfl (Nat.le_of_ble_eq_true rfl) dX2_removes_26 ⟨Nat.le_of_ble_eq_true rfl, Nat.le_of_ble_eq_true rfl⟩ (by omega) (by omega) hbg (fun locs hL => ?_)
  exact r_iret X hL rfl rfl dX2_removes_29 (by omega) (by omega) ⟨rfl, ⟨b, sd, SS, hPa, loa, hSa, fun q hq => ⟨(hSP q hq).1, Nat.lt_of_lt_of_le (hSP q hq).2 hC.1⟩, by rw [delR_178, delR_hi _ hn (by omega) (by omega)]; exact ob, hbg, hsd.to (fun j h1 h2 => (delR_hi ro hn (by omega) (by omega)).symm) (fun _ z _ => z), rem_of hn hi hC hI hofs, rem_inj hinj, delR_160 _ _ _, by omega⟩, hC⟩
theorem vb_X2_removes : VB yX2_removes cX2_removes 3 (some .int) 1 := ⟨q1389, q1390, q100, q1391, ⟨by decide, by decide, by decide +kernel⟩⟩
