/-! the list: one put in -/
def insN (x : Nat → Nat) (i v : Nat) : Nat → Nat := fun j => if j < i then x j else if j = i then v else x (j - 1)
theorem el_of {g : GT} {P : Nat → Prop} {x : Nat → Nat} {n : Nat} {H : Heap} {f : Nat → Option Nat} (hx : ∀ j, j < n → f j = some (x j)) (h : ElR g P x n H) : ∀ j, j < n → ∀ y, f j = some y → ∃ (ci : Nat) (fs : List Value) (r : vw_C), Ob g y ci fs H ∧ vwCl[ci]? = some r ∧ Cond.castable r.1 "java/lang/Object" ∈ lw_tbl := fun _ hj _ e => el_ok hx h hj e
theorem app_ok {f : Nat → Option Nat} {x : Nat → Nat} {n v : Nat} (hx : ∀ j, j < n → f j = some (x j)) : ∀ j, j < n + 1 → va_up f n (some v) j = some (va_up x n v j) := fun j hj => by
  unfold va_up
  by_cases q : j = n
  · rw [if_pos q, if_pos q]
  · rw [if_neg q, if_neg q]; exact hx j (by omega)
theorem ins_ok {f : Nat → Option Nat} {x : Nat → Nat} {n i v : Nat} (hx : ∀ j, j < n → f j = some (x j)) (hi : i ≤ n) : ∀ j, j < n + 1 → va_up (va_cpy f f i (i + 1) (n - i)) i (some v) j = some (insN x i v j) := fun j hj => by
  unfold insN va_up va_cpy
  by_cases q : j = i
  · rw [if_pos q, if_neg (by omega), if_pos q]
  · rw [if_neg q]
    by_cases z : j < i
    · rw [if_neg (by omega), if_pos z]; exact hx j (by omega)
    · rw [if_pos (by omega), if_neg z, if_neg q, show i + (j - (i + 1)) = j - 1 by omega]; exact hx (j - 1) (by omega)

set_option maxRecDepth 100000 in
set_option maxHeartbeats 4000000 in
theorem ct_J2_grow (l : Launch) (g : GT) (P : Nat → Prop) (n a : Nat) (mc : Int32) (ar : Nat) (f : Nat → Option Nat) (hn : n ≤ 60) (p1 : P a) (l1 : gLo g ≤ a) (hne : a ≠ ar) (he : 0 < n ∨ ar = gE g) : Ct l g yJ2_grow cJ2_grow 1 (some (.array (.object "java/lang/Object"))) 5 1 (nxC n) [.ref a] (fun H => (Ob g a 7 [.int mc, .ref ar, .int (nI n)] H ∧ Aq g ar 4 n f H ∧ ∀ j, j < n → ∀ y, f j = some y → ∃ (ci : Nat) (fs : List Value) (r : vw_C), Ob g y ci fs H ∧ vwCl[ci]? = some r ∧ Cond.castable r.1 "java/lang/Object" ∈ lw_tbl) ∧ ∀ q, H.size ≤ q → P q) (fun r H H1 => ∃ (b : Nat) (f1 : Nat → Option Nat), (Ob g a 7 [.int mc, .ref b, .int (nI n)] H1 ∧ Aq g b 4 (nxC n) f1 H1 ∧ (∀ j, j < n → f1 j = f j) ∧ P b ∧ gLo g ≤ b ∧ a ≠ b) ∧ r = some (.ref b) ∧ Chg P H H1) := by
  refine Ct.of (by decide) (Nat.le_of_ble_eq_true rfl) ?_
  intro p e s m args below meth c X hP ls hl
  have hx := X.1
  have hb := X.2.1
  have hKV := X.2.2.2.2.2.2.2.1.1
  have hL : ∀ q ∈ ([] : List Loc), gLo g ≤ q.base := fun _ h => by cases h
  obtain ⟨⟨ob, aq, hel⟩, hPn⟩ := hP
  have hl : lv_has ls 1 [(0, .ref a)] := hl
  have hC : Chg P s.heap s.heap := Chg.rfl'
  have hlo2 : gLo g ≤ s.heap.size := X.2.2.2.2.2.2.2.1.2.1
  refine lv_aload_n hx hb dJ2_grow_0 rfl (lv_at hl 0 rfl) ?_
  refine lv_aload_n hx hb dJ2_grow_1 rfl (lv_at hl 0 rfl) ?_
  refine r_get (C := RJ2) (T := TJ2) (N := 3) (ci := 7) X in_J2 rfl 2 (Nat.le_of_ble_eq_true rfl) q167 (fun _ h => h) ob rfl dJ2_grow_2 ?_
  refine lv_iconst (v := nI 1) hx hb dJ2_grow_5 (by decide) ?_
  refine n_iadd X dJ2_grow_6 ?_
  refine Ct.callV (ct_J2_grow_2 l g P n a mc ar f hn p1 l1 hne he) X hL hl vb_J2_grow_2 q372 (ob.recv hKV rfl) rfl rfl (Nat.le_of_ble_eq_true rfl) dJ2_grow_7 ⟨Nat.le_of_ble_eq_true rfl, Nat.le_of_ble_eq_true rfl⟩ (by omega) (by omega) ⟨⟨ob, aq, hel⟩, hPn⟩ (fun r H locs hL hp => ?_)
  obtain ⟨b, f1, hb2, rfl, hC1⟩ := hp
  exact r_aret X hL rfl (Or.inr ⟨_, rfl⟩) (Or.inr ⟨_, rfl⟩) dJ2_grow_10 (by omega) (by omega) ⟨b, f1, hb2, rfl, hC1⟩
theorem vb_J2_grow : VB yJ2_grow cJ2_grow 1 (some (.array (.object "java/lang/Object"))) 0 := ⟨q370, qs2, q104, q371, ⟨by decide, by decide, by decide +kernel⟩⟩

set_option maxRecDepth 100000 in
set_option maxHeartbeats 4000000 in
theorem ct_J2_add_2 (l : Launch) (g : GT) (P : Nat → Prop) (x : Nat → Nat) (n cap a : Nat) (mc : Int32) (ar : Nat) (f : Nat → Option Nat) (e1 u v : Nat) (hn : n ≤ 60) (p1 : P a) (l1 : gLo g ≤ a) (hne : a ≠ ar) (hnc : n ≤ cap) (hcap : cap ≤ 1000) (hx1 : ∀ j, j < n → f j = some (x j)) (he : (ar = gE g ∧ cap = 0) ∨ (P ar ∧ gLo g ≤ ar ∧ 0 < cap)) (hne1 : ¬ P e1) (hu : n < cap ∨ (1 ≤ u ∧ nxC n ≤ v)) : Ct l g yJ2_add_2 cJ2_add_2 4 none 6 u v [.ref a, .ref e1, .ref ar, .int (nI n)] (fun H => (Ob g a 7 [.int mc, .ref ar, .int (nI n)] H ∧ Aq g ar 4 cap f H ∧ ElR g P x n H ∧ ∃ fs, Ob g e1 5 fs H) ∧ ∀ q, H.size ≤ q → P q) (fun r H H1 => r = none ∧ LstK g P (va_up x n e1) (n + 1) (if n < cap then cap else nxC n) a H1 ∧ Chg P H H1) := by
  refine Ct.of (by decide) (Nat.le_of_ble_eq_true rfl) ?_
  intro p e s m args below meth c X hP ls hl
  have hx := X.1
  have hb := X.2.1
  have hKV := X.2.2.2.2.2.2.2.1.1
  have hL : ∀ q ∈ ([] : List Loc), gLo g ≤ q.base := fun _ h => by cases h
  obtain ⟨⟨ob, aq, hel, fs, oe⟩, hPn⟩ := hP
  have hl : lv_has ls 4 [(0, .ref a), (1, .ref e1), (2, .ref ar), (3, .int (nI n))] := hl
  have hC : Chg P s.heap s.heap := Chg.rfl'
  have hnx : n < nxC n ∧ nxC n ≤ 1000 := by unfold nxC; split <;> omega
  refine lv_iload_n hx hb dJ2_add_2_0 rfl (lv_at hl 3 rfl) ?_
  refine lv_aload_n hx hb dJ2_add_2_1 rfl (lv_at hl 2 rfl) ?_
  refine r_lenq (k := 4) (v := nI cap) X aq rfl rfl dJ2_add_2_2 ?_
  refine n_icmp_ne (tgt := 11) X dJ2_add_2_3 (by decide) (by omega) (by omega) (fun c_3 => ?_) (fun c_3 => ?_)
  ·
    obtain ⟨p2, l2, hcp⟩ : P ar ∧ gLo g ≤ ar ∧ 0 < cap := he.resolve_left (fun q => by omega)
    have hx2 := hx1
    refine lv_aload_n hx hb dJ2_add_2_11 rfl (lv_at hl 2 rfl) ?_
    refine lv_iload_n hx hb dJ2_add_2_12 rfl (lv_at hl 3 rfl) ?_
    refine lv_aload_n hx hb dJ2_add_2_13 rfl (lv_at hl 1 rfl) ?_
    refine r_qst (k := 4) X hL aq rfl oe rfl (Or.inr q2326) l2 n (nI_cl (by omega) rfl) (nI_nn (by omega) rfl) (by omega) dJ2_add_2_14 (fun H locs hL h1 h2 => ?_)
    have aq : Aq g ar 4 cap (va_up f n (some e1)) H := h1
    have ob := ob.on h2 hne
    have hel := hel.on h2 p2
    have oe := oe.on h2 (fun z => hne1 (z ▸ p2))
    have hC := hC.trans (h2.chg p2)
    refine lv_aload_n hx hb dJ2_add_2_15 rfl (lv_at hl 0 rfl) ?_
    refine lv_iload_n hx hb dJ2_add_2_16 rfl (lv_at hl 3 rfl) ?_
    refine lv_iconst (v := nI 1) hx hb dJ2_add_2_17 (by decide) ?_
    refine n_iadd X dJ2_add_2_18 ?_
    refine r_put (C := RJ2) (T := TJ2) (N := 3) (ci := 7) X in_J2 tyJ2 tyJ2_ok nmJ2 rfl 2 (Nat.le_of_ble_eq_true rfl) q167 (fun _ h => h) rfl hL ob l1 rfl rfl (Nat.le_of_ble_eq_true rfl) dJ2_add_2_19 (fun H locs hL h1 h2 => ?_)
    have ob : Ob g a 7 [.int mc, .ref ar, .int (nI (n + 1))] H := h1
    have aq := aq.on h2 (Ne.symm hne)
    have hel := hel.on h2 p1
    have oe := oe.on h2 (fun z => hne1 (z ▸ p1))
    have hC := hC.trans (h2.chg p1)
    exact r_vret X hL dJ2_add_2_22 (by omega) (by omega) ⟨rfl, by rw [if_pos (by omega)]; exact ⟨_, ar, _, p1, l1, ob, aq, by omega, hcap, hne, app_ok hx2, Or.inr ⟨p2, l2, by omega⟩⟩, hC⟩
  ·
    refine lv_aload_n hx hb dJ2_add_2_6 rfl (lv_at hl 0 rfl) ?_
    obtain rfl : n = cap := by omega
    refine Ct.callV (ct_J2_grow l g P n a mc ar f hn p1 l1 hne (by rcases he with z | z; exact Or.inr z.1; exact Or.inl z.2.2)) X hL hl vb_J2_grow q368 (ob.recv hKV rfl) rfl rfl (Nat.le_of_ble_eq_true rfl) dJ2_add_2_7 ⟨Nat.le_of_ble_eq_true rfl, Nat.le_of_ble_eq_true rfl⟩ (by omega) (by omega) ⟨⟨ob, aq, el_of hx1 hel⟩, fun q hq => hPn q (Nat.le_trans hC.1 hq)⟩ (fun r H locs hL hp => ?_)
    obtain ⟨b, f1, ⟨ob, aq2, hf1, pb, lob, hneb⟩, rfl, hC1⟩ := hp
    have hel := hel.chg hC1
    have oe := oe.chg hC1 hne1
    have hC := hC.trans hC1
    have hx2 : ∀ j, j < n → f1 j = some (x j) := fun j hj => (hf1 j hj).trans (hx1 j hj)
    refine lv_astore_n (lv' := [(2, .ref _), (0, .ref _), (1, .ref _), (3, .int _)]) hx hb dJ2_add_2_10 rfl hl (by decide) rfl (fun ls hl => ?_)
    refine lv_aload_n hx hb dJ2_add_2_11 rfl (lv_at hl 0 rfl) ?_
    refine lv_iload_n hx hb dJ2_add_2_12 rfl (lv_at hl 3 rfl) ?_
    refine lv_aload_n hx hb dJ2_add_2_13 rfl (lv_at hl 2 rfl) ?_
    refine r_qst (k := 4) X hL aq2 rfl oe rfl (Or.inr q2326) lob n (nI_cl (by omega) rfl) (nI_nn (by omega) rfl) (by omega) dJ2_add_2_14 (fun H locs hL h1 h2 => ?_)
    have aq2 : Aq g b 4 (nxC n) (va_up f1 n (some e1)) H := h1
    have ob := ob.on h2 hneb
    have hel := hel.on h2 pb
    have oe := oe.on h2 (fun z => hne1 (z ▸ pb))
    have hC := hC.trans (h2.chg pb)
    refine lv_aload_n hx hb dJ2_add_2_15 rfl (lv_at hl 1 rfl) ?_
    refine lv_iload_n hx hb dJ2_add_2_16 rfl (lv_at hl 3 rfl) ?_
    refine lv_iconst (v := nI 1) hx hb dJ2_add_2_17 (by decide) ?_
    refine n_iadd X dJ2_add_2_18 ?_
    refine r_put (C := RJ2) (T := TJ2) (N := 3) (ci := 7) X in_J2 tyJ2 tyJ2_ok nmJ2 rfl 2 (Nat.le_of_ble_eq_true rfl) q167 (fun _ h => h) rfl hL ob l1 rfl rfl (Nat.le_of_ble_eq_true rfl) dJ2_add_2_19 (fun H locs hL h1 h2 => ?_)
    have ob : Ob g a 7 [.int mc, .ref b, .int (nI (n + 1))] H := h1
    have aq2 := aq2.on h2 (Ne.symm hneb)
    have hel := hel.on h2 p1
    have oe := oe.on h2 (fun z => hne1 (z ▸ p1))
    have hC := hC.trans (h2.chg p1)
    exact r_vret X hL dJ2_add_2_22 (by omega) (by omega) ⟨rfl, by rw [if_neg (Nat.lt_irrefl _)]; exact ⟨_, b, _, p1, l1, ob, aq2, by omega, by omega, hneb, app_ok hx2, Or.inr ⟨pb, lob, by omega⟩⟩, hC⟩
theorem vb_J2_add_2 : VB yJ2_add_2 cJ2_add_2 4 none 3 := ⟨q366, qs1, q104, q367, ⟨by decide, by decide, by decide +kernel⟩⟩

set_option maxRecDepth 100000 in
set_option maxHeartbeats 4000000 in
theorem ct_J2_add (l : Launch) (g : GT) (P : Nat → Prop) (x : Nat → Nat) (n cap a e1 u v : Nat) (hn : n ≤ 60) (hne1 : ¬ P e1) (hu : n < cap ∨ (1 ≤ u ∧ nxC n ≤ v)) : Ct l g yJ2_add cJ2_add 2 (some .boolean) 7 u v [.ref a, .ref e1] (fun H => LstK g P x n cap a H ∧ ElR g P x n H ∧ (∃ fs, Ob g e1 5 fs H) ∧ ∀ q, H.size ≤ q → P q) (fun r H H1 => r = some (.int (nI 1)) ∧ LstK g P (va_up x n e1) (n + 1) (if n < cap then cap else nxC n) a H1 ∧ Chg P H H1) := by
  refine Ct.of (by decide) (Nat.le_of_ble_eq_true rfl) ?_
  intro p e s m args below meth c X hP ls hl
  have hx := X.1
  have hb := X.2.1
  have hKV := X.2.2.2.2.2.2.2.1.1
  have hL : ∀ q ∈ ([] : List Loc), gLo g ≤ q.base := fun _ h => by cases h
  obtain ⟨⟨mc, ar, f, p1, l1, ob, aq, hnc, hcap, hne, hx1, he⟩, hel, ⟨fs, oe⟩, hPn⟩ := hP
  have hl : lv_has ls 2 [(0, .ref a), (1, .ref e1)] := hl
  have hC : Chg P s.heap s.heap := Chg.rfl'
  have hnx : n < nxC n ∧ nxC n ≤ 1000 := by unfold nxC; split <;> omega
  refine lv_aload_n hx hb dJ2_add_0 rfl (lv_at hl 0 rfl) ?_
  refine lv_dup hx hb dJ2_add_1 rfl ?_
  refine r_get (C := RJ2) (T := TJ2) (N := 3) (ci := 7) X in_J2 rfl 0 (Nat.le_of_ble_eq_true rfl) q169 (fun x h => u_same (X.2.2.2.2.1 _ q170) x h) ob rfl dJ2_add_2 ?_
  refine lv_iconst (v := nI 1) hx hb dJ2_add_5 (by decide) ?_
  refine lv_iadd hx hb dJ2_add_6 ?_
  refine r_put (C := RJ2) (T := TJ2) (N := 3) (ci := 7) X in_J2 tyJ2 tyJ2_ok nmJ2 rfl 0 (Nat.le_of_ble_eq_true rfl) q169 (fun x h => u_same (X.2.2.2.2.1 _ q170) x h) rfl hL ob l1 rfl rfl (Nat.le_of_ble_eq_true rfl) dJ2_add_7 (fun H locs hL h1 h2 => ?_)
  have ob : Ob g a 7 [.int (mc + (nI 1)), .ref ar, .int (nI n)] H := h1
  have aq := aq.on h2 (Ne.symm hne)
  have hel := hel.on h2 p1
  have oe := oe.on h2 (fun z => hne1 (z ▸ p1))
  have hC := hC.trans (h2.chg p1)
  refine lv_aload_n hx hb dJ2_add_10 rfl (lv_at hl 0 rfl) ?_
  refine lv_aload_n hx hb dJ2_add_11 rfl (lv_at hl 1 rfl) ?_
  refine lv_aload_n hx hb dJ2_add_12 rfl (lv_at hl 0 rfl) ?_
  refine r_get (C := RJ2) (T := TJ2) (N := 3) (ci := 7) X in_J2 rfl 1 (Nat.le_of_ble_eq_true rfl) q166 (fun _ h => h) ob rfl dJ2_add_13 ?_
  refine lv_aload_n hx hb dJ2_add_16 rfl (lv_at hl 0 rfl) ?_
  refine r_get (C := RJ2) (T := TJ2) (N := 3) (ci := 7) X in_J2 rfl 2 (Nat.le_of_ble_eq_true rfl) q167 (fun _ h => h) ob rfl dJ2_add_17 ?_
  refine Ct.callV (ct_J2_add_2 l g P x n cap a (mc + nI 1) ar f e1 u v hn p1 l1 hne hnc hcap hx1 he hne1 hu) X hL hl vb_J2_add_2 q364 (ob.recv hKV rfl) rfl rfl (Nat.le_of_ble_eq_true rfl) dJ2_add_20 ⟨Nat.le_of_ble_eq_true rfl, Nat.le_of_ble_eq_true rfl⟩ (by omega) (by omega) ⟨⟨ob, aq, hel, fs, oe⟩, fun q hq => hPn q (Nat.le_trans hC.1 hq)⟩ (fun r H locs hL hp => ?_)
  obtain ⟨rfl, hK, hC1⟩ := hp
  have hC := hC.trans hC1
  refine lv_iconst (v := nI 1) hx hb dJ2_add_23 (by decide) ?_
  exact r_iret X hL rfl rfl dJ2_add_24 (by omega) (by omega) ⟨rfl, hK, hC⟩
theorem vb_J2_add : VB yJ2_add cJ2_add 2 (some .boolean) 1 := ⟨q361, q362, q104, q363, ⟨by decide, by decide, by decide +kernel⟩⟩

set_option maxRecDepth 100000 in
set_option maxHeartbeats 4000000 in
theorem ct_J2_rangeCheckForAdd (l : Launch) (g : GT) (P : Nat → Prop) (x : Nat → Nat) (n a i : Nat) (hi : i ≤ n) : Ct l g yJ2_rangeCheckForAdd cJ2_rangeCheckForAdd 2 none 1 0 0 [.ref a, .int (nI i)] (LstR g P x n a) (fun r H H1 => r = none ∧ H1 = H) := by
  refine Ct.of (by decide) (Nat.le_of_ble_eq_true rfl) ?_
  intro p e s m args below meth c X hP ls hl
  have hx := X.1
  have hb := X.2.1
  have hKV := X.2.2.2.2.2.2.2.1.1
  have hL : ∀ q ∈ ([] : List Loc), gLo g ≤ q.base := fun _ h => by cases h
  obtain ⟨mc, ar, cap, f, p1, l1, ob, aq, hnc, hcap, hne, hx1, he⟩ := hP
  have hl : lv_has ls 2 [(0, .ref a), (1, .int (nI i))] := hl
  refine lv_iload_n hx hb dJ2_rangeCheckForAdd_0 rfl (lv_at hl 1 rfl) ?_
  refine lv_aload_n hx hb dJ2_rangeCheckForAdd_1 rfl (lv_at hl 0 rfl) ?_
  refine r_get (C := RJ2) (T := TJ2) (N := 3) (ci := 7) X in_J2 rfl 2 (Nat.le_of_ble_eq_true rfl) q167 (fun _ h => h) ob rfl dJ2_rangeCheckForAdd_2 ?_
  refine n_icmp_gt (tgt := 12) X dJ2_rangeCheckForAdd_5 (by decide) (by omega) (by omega) (fun c_5 => ?_) (fun c_5 => ?_)
  ·
    exact absurd c_5 (by omega)
  ·
    refine lv_iload_n hx hb dJ2_rangeCheckForAdd_8 rfl (lv_at hl 1 rfl) ?_
    refine n_ifge (tgt := 25) X dJ2_rangeCheckForAdd_9 (by decide) (by omega) (fun c_9 => ?_) (fun c_9 => ?_)
    ·
      exact r_vret X hL dJ2_rangeCheckForAdd_25 (by omega) (by omega) ⟨rfl, rfl⟩
    ·
      exact c_9.elim
theorem vb_J2_rangeCheckForAdd : VB yJ2_rangeCheckForAdd cJ2_rangeCheckForAdd 2 none 1 := ⟨q1039, qs22, q104, q1040, ⟨by decide, by decide, by decide +kernel⟩⟩

set_option maxRecDepth 100000 in
set_option maxHeartbeats 4000000 in
theorem ct_J2_add_3 (l : Launch) (g : GT) (P : Nat → Prop) (x : Nat → Nat) (n cap a i e1 u v : Nat) (hn : n ≤ 60) (hi : i ≤ n) (hne1 : ¬ P e1) (hu : n < cap ∨ (1 ≤ u ∧ nxC n ≤ v)) : Ct l g yJ2_add_3 cJ2_add_3 5 none 6 u v [.ref a, .int (nI i), .ref e1] (fun H => LstK g P x n cap a H ∧ ElR g P x n H ∧ (∃ fs, Ob g e1 5 fs H) ∧ ∀ q, H.size ≤ q → P q) (fun r H H1 => r = none ∧ LstK g P (insN x i e1) (n + 1) (if n < cap then cap else nxC n) a H1 ∧ Chg P H H1) := by
  refine Ct.of (by decide) (Nat.le_of_ble_eq_true rfl) ?_
  intro p e s m args below meth c X hP ls hl
  have hx := X.1
  have hb := X.2.1
  have hKV := X.2.2.2.2.2.2.2.1.1
  have hL : ∀ q ∈ ([] : List Loc), gLo g ≤ q.base := fun _ h => by cases h
  obtain ⟨⟨mc, ar, f, p1, l1, ob, aq, hnc, hcap, hne, hx1, he⟩, hel, ⟨fs, oe⟩, hPn⟩ := hP
  have hl : lv_has ls 5 [(0, .ref a), (1, .int (nI i)), (2, .ref e1)] := hl
  have hC : Chg P s.heap s.heap := Chg.rfl'
  have hnx : n < nxC n ∧ nxC n ≤ 1000 := by unfold nxC; split <;> omega
  refine lv_aload_n hx hb dJ2_add_3_0 rfl (lv_at hl 0 rfl) ?_
  refine lv_iload_n hx hb dJ2_add_3_1 rfl (lv_at hl 1 rfl) ?_
  refine Ct.callV (ct_J2_rangeCheckForAdd l g P x n a i hi) X hL hl vb_J2_rangeCheckForAdd q1037 (ob.recv hKV rfl) rfl rfl (Nat.le_of_ble_eq_true rfl) dJ2_add_3_2 ⟨Nat.le_of_ble_eq_true rfl, Nat.le_of_ble_eq_true rfl⟩ (by omega) (by omega) ⟨mc, ar, cap, f, p1, l1, ob, aq, hnc, hcap, hne, hx1, he⟩ (fun r H locs hL hp => ?_)
  obtain ⟨rfl, rfl⟩ := hp
  refine lv_aload_n hx hb dJ2_add_3_5 rfl (lv_at hl 0 rfl) ?_
  refine lv_dup hx hb dJ2_add_3_6 rfl ?_
  refine r_get (C := RJ2) (T := TJ2) (N := 3) (ci := 7) X in_J2 rfl 0 (Nat.le_of_ble_eq_true rfl) q169 (fun x h => u_same (X.2.2.2.2.1 _ q170) x h) ob rfl dJ2_add_3_7 ?_
  refine lv_iconst (v := nI 1) hx hb dJ2_add_3_10 (by decide) ?_
  refine lv_iadd hx hb dJ2_add_3_11 ?_
  refine r_put (C := RJ2) (T := TJ2) (N := 3) (ci := 7) X in_J2 tyJ2 tyJ2_ok nmJ2 rfl 0 (Nat.le_of_ble_eq_true rfl) q169 (fun x h => u_same (X.2.2.2.2.1 _ q170) x h) rfl hL ob l1 rfl rfl (Nat.le_of_ble_eq_true rfl) dJ2_add_3_12 (fun H locs hL h1 h2 => ?_)
  have ob : Ob g a 7 [.int (mc + (nI 1)), .ref ar, .int (nI n)] H := h1
  have aq := aq.on h2 (Ne.symm hne)
  have hel := hel.on h2 p1
  have oe := oe.on h2 (fun z => hne1 (z ▸ p1))
  have hC := hC.trans (h2.chg p1)
  refine lv_aload_n hx hb dJ2_add_3_15 rfl (lv_at hl 0 rfl) ?_
  refine r_get (C := RJ2) (T := TJ2) (N := 3) (ci := 7) X in_J2 rfl 2 (Nat.le_of_ble_eq_true rfl) q167 (fun _ h => h) ob rfl dJ2_add_3_16 ?_
  refine lv_dup hx hb dJ2_add_3_19 rfl ?_
  refine lv_istore_n (lv' := [(3, .int _), (0, .ref _), (1, .int _), (2, .ref _)]) hx hb dJ2_add_3_20 rfl hl (by decide) rfl (fun ls hl => ?_)
  refine lv_aload_n hx hb dJ2_add_3_21 rfl (lv_at hl 1 rfl) ?_
  refine r_get (C := RJ2) (T := TJ2) (N := 3) (ci := 7) X in_J2 rfl 1 (Nat.le_of_ble_eq_true rfl) q166 (fun _ h => h) ob rfl dJ2_add_3_22 ?_
  refine lv_dup hx hb dJ2_add_3_25 rfl ?_
  refine lv_astore (lv' := [(4, .ref _), (3, .int _), (0, .ref _), (1, .int _), (2, .ref _)]) hx hb dJ2_add_3_26 hl (by decide) rfl (fun ls hl => ?_)
  refine r_lenq (k := 4) (v := nI cap) X aq rfl rfl dJ2_add_3_28 ?_
  refine n_icmp_ne (tgt := 38) X dJ2_add_3_29 (by decide) (by omega) (by omega) (fun c_29 => ?_) (fun c_29 => ?_)
  ·
    obtain ⟨p2, l2, hcp⟩ : P ar ∧ gLo g ≤ ar ∧ 0 < cap := he.resolve_left (fun q => by omega)
    have hx2 := hx1
    refine lv_aload hx hb dJ2_add_3_38 (lv_at hl 0 rfl) ?_
    refine lv_iload_n hx hb dJ2_add_3_40 rfl (lv_at hl 3 rfl) ?_
    refine lv_aload hx hb dJ2_add_3_41 (lv_at hl 0 rfl) ?_
    refine lv_iload_n hx hb dJ2_add_3_43 rfl (lv_at hl 3 rfl) ?_
    refine lv_iconst (v := nI 1) hx hb dJ2_add_3_44 (by decide) ?_
    refine n_iadd X dJ2_add_3_45 ?_
    refine lv_iload_n hx hb dJ2_add_3_46 rfl (lv_at hl 1 rfl) ?_
    refine lv_iload_n hx hb dJ2_add_3_47 rfl (lv_at hl 3 rfl) ?_
    refine n_isub X (by omega) dJ2_add_3_48 ?_
    refine r_copyq (k := 4) X hl hL aq aq rfl l2 q616 q419 q418 q122 (nI_pos (by omega)) (nI_pos (by omega)) (nI_pos (by omega)) (by rw [nI_clamp (n := i) (by omega), nI_clamp (n := n - i) (by omega)]; omega) (by rw [nI_clamp (n := i + 1) (by omega), nI_clamp (n := n - i) (by omega)]; omega) (fun z hz y hy => el_of hx2 hel _ (by rw [nI_clamp (n := n - i) (by omega)] at hz; rw [nI_clamp (n := i) (by omega)]; omega) y hy) (Nat.le_of_ble_eq_true rfl) (Nat.le_of_ble_eq_true rfl) dJ2_add_3_49 (fun H locs hL h1 h2 => ?_)
    rw [nI_clamp (n := i) (by omega), nI_clamp (n := i + 1) (by omega), nI_clamp (n := n - i) (by omega)] at h1
    have aq : Aq g ar 4 cap (va_cpy f f i (i + 1) (n - i)) H := h1
    have ob := ob.on h2 hne
    have hel := hel.on h2 p2
    have oe := oe.on h2 (fun z => hne1 (z ▸ p2))
    have hC := hC.trans (h2.chg p2)
    refine lv_aload hx hb dJ2_add_3_52 (lv_at hl 0 rfl) ?_
    refine lv_iload_n hx hb dJ2_add_3_54 rfl (lv_at hl 3 rfl) ?_
    refine lv_aload_n hx hb dJ2_add_3_55 rfl (lv_at hl 4 rfl) ?_
    refine r_qst (k := 4) X hL aq rfl oe rfl (Or.inr q2326) l2 i (nI_cl (by omega) rfl) (nI_nn (by omega) rfl) (by omega) dJ2_add_3_56 (fun H locs hL h1 h2 => ?_)
    have aq : Aq g ar 4 cap (va_up (va_cpy f f i (i + 1) (n - i)) i (some e1)) H := h1
    have ob := ob.on h2 hne
    have hel := hel.on h2 p2
    have oe := oe.on h2 (fun z => hne1 (z ▸ p2))
    have hC := hC.trans (h2.chg p2)
    refine lv_aload_n hx hb dJ2_add_3_57 rfl (lv_at hl 2 rfl) ?_
    refine lv_iload_n hx hb dJ2_add_3_58 rfl (lv_at hl 1 rfl) ?_
    refine lv_iconst (v := nI 1) hx hb dJ2_add_3_59 (by decide) ?_
    refine n_iadd X dJ2_add_3_60 ?_
    refine r_put (C := RJ2) (T := TJ2) (N := 3) (ci := 7) X in_J2 tyJ2 tyJ2_ok nmJ2 rfl 2 (Nat.le_of_ble_eq_true rfl) q167 (fun _ h => h) rfl hL ob l1 rfl rfl (Nat.le_of_ble_eq_true rfl) dJ2_add_3_61 (fun H locs hL h1 h2 => ?_)
    have ob : Ob g a 7 [.int (mc + (nI 1)), .ref ar, .int (nI (n + 1))] H := h1
    have aq := aq.on h2 (Ne.symm hne)
    have hel := hel.on h2 p1
    have oe := oe.on h2 (fun z => hne1 (z ▸ p1))
    have hC := hC.trans (h2.chg p1)
    exact r_vret X hL dJ2_add_3_64 (by omega) (by omega) ⟨rfl, by rw [if_pos (by omega)]; exact ⟨_, ar, _, p1, l1, ob, aq, by omega, hcap, hne, ins_ok hx2 hi, Or.inr ⟨p2, l2, by omega⟩⟩, hC⟩
  ·
    refine lv_aload_n hx hb dJ2_add_3_32 rfl (lv_at hl 2 rfl) ?_
    obtain rfl : n = cap := by omega
    refine Ct.callV (ct_J2_grow l g P n a (mc + nI 1) ar f hn p1 l1 hne (by rcases he with z | z; exact Or.inr z.1; exact Or.inl z.2.2)) X hL hl vb_J2_grow q368 (ob.recv hKV rfl) rfl rfl (Nat.le_of_ble_eq_true rfl) dJ2_add_3_33 ⟨Nat.le_of_ble_eq_true rfl, Nat.le_of_ble_eq_true rfl⟩ (by omega) (by omega) ⟨⟨ob, aq, el_of hx1 hel⟩, fun q hq => hPn q (Nat.le_trans hC.1 hq)⟩ (fun r H locs hL hp => ?_)
    obtain ⟨b, f1, ⟨ob, aq2, hf1, pb, lob, hneb⟩, rfl, hC1⟩ := hp
    have hel := hel.chg hC1
    have oe := oe.chg hC1 hne1
    have hC := hC.trans hC1
    have hx2 : ∀ j, j < n → f1 j = some (x j) := fun j hj => (hf1 j hj).trans (hx1 j hj)
    refine lv_astore (lv' := [(4, .ref _), (3, .int _), (0, .ref _), (1, .int _), (2, .ref _)]) hx hb dJ2_add_3_36 hl (by decide) rfl (fun ls hl => ?_)
    refine lv_aload hx hb dJ2_add_3_38 (lv_at hl 0 rfl) ?_
    refine lv_iload_n hx hb dJ2_add_3_40 rfl (lv_at hl 3 rfl) ?_
    refine lv_aload hx hb dJ2_add_3_41 (lv_at hl 0 rfl) ?_
    refine lv_iload_n hx hb dJ2_add_3_43 rfl (lv_at hl 3 rfl) ?_
    refine lv_iconst (v := nI 1) hx hb dJ2_add_3_44 (by decide) ?_
    refine n_iadd X dJ2_add_3_45 ?_
    refine lv_iload_n hx hb dJ2_add_3_46 rfl (lv_at hl 1 rfl) ?_
    refine lv_iload_n hx hb dJ2_add_3_47 rfl (lv_at hl 3 rfl) ?_
    refine n_isub X (by omega) dJ2_add_3_48 ?_
    refine r_copyq (k := 4) X hl hL aq2 aq2 rfl lob q616 q419 q418 q122 (nI_pos (by omega)) (nI_pos (by omega)) (nI_pos (by omega)) (by rw [nI_clamp (n := i) (by omega), nI_clamp (n := n - i) (by omega)]; omega) (by rw [nI_clamp (n := i + 1) (by omega), nI_clamp (n := n - i) (by omega)]; omega) (fun z hz y hy => el_of hx2 hel _ (by rw [nI_clamp (n := n - i) (by omega)] at hz; rw [nI_clamp (n := i) (by omega)]; omega) y hy) (Nat.le_of_ble_eq_true rfl) (Nat.le_of_ble_eq_true rfl) dJ2_add_3_49 (fun H locs hL h1 h2 => ?_)
    rw [nI_clamp (n := i) (by omega), nI_clamp (n := i + 1) (by omega), nI_clamp (n := n - i) (by omega)] at h1
    have aq2 : Aq g b 4 (nxC n) (va_cpy f1 f1 i (i + 1) (n - i)) H := h1
    have ob := ob.on h2 hneb
    have hel := hel.on h2 pb
    have oe := oe.on h2 (fun z => hne1 (z ▸ pb))
    have hC := hC.trans (h2.chg pb)
    refine lv_aload hx hb dJ2_add_3_52 (lv_at hl 0 rfl) ?_
    refine lv_iload_n hx hb dJ2_add_3_54 rfl (lv_at hl 3 rfl) ?_
    refine lv_aload_n hx hb dJ2_add_3_55 rfl (lv_at hl 4 rfl) ?_
    refine r_qst (k := 4) X hL aq2 rfl oe rfl (Or.inr q2326) lob i (nI_cl (by omega) rfl) (nI_nn (by omega) rfl) (by omega) dJ2_add_3_56 (fun H locs hL h1 h2 => ?_)
    have aq2 : Aq g b 4 (nxC n) (va_up (va_cpy f1 f1 i (i + 1) (n - i)) i (some e1)) H := h1
    have ob := ob.on h2 hneb
    have hel := hel.on h2 pb
    have oe := oe.on h2 (fun z => hne1 (z ▸ pb))
    have hC := hC.trans (h2.chg pb)
    refine lv_aload_n hx hb dJ2_add_3_57 rfl (lv_at hl 2 rfl) ?_
    refine lv_iload_n hx hb dJ2_add_3_58 rfl (lv_at hl 1 rfl) ?_
    refine lv_iconst (v := nI 1) hx hb dJ2_add_3_59 (by decide) ?_
    refine n_iadd X dJ2_add_3_60 ?_
    refine r_put (C := RJ2) (T := TJ2) (N := 3) (ci := 7) X in_J2 tyJ2 tyJ2_ok nmJ2 rfl 2 (Nat.le_of_ble_eq_true rfl) q167 (fun _ h => h) rfl hL ob l1 rfl rfl (Nat.le_of_ble_eq_true rfl) dJ2_add_3_61 (fun H locs hL h1 h2 => ?_)
    have ob : Ob g a 7 [.int (mc + (nI 1)), .ref b, .int (nI (n + 1))] H := h1
    have aq2 := aq2.on h2 (Ne.symm hneb)
    have hel := hel.on h2 p1
    have oe := oe.on h2 (fun z => hne1 (z ▸ p1))
    have hC := hC.trans (h2.chg p1)
    exact r_vret X hL dJ2_add_3_64 (by omega) (by omega) ⟨rfl, by rw [if_neg (Nat.lt_irrefl _)]; exact ⟨_, b, _, p1, l1, ob, aq2, by omega, by omega, hneb, ins_ok hx2 hi, Or.inr ⟨pb, lob, by omega⟩⟩, hC⟩
theorem vb_J2_add_3 : VB yJ2_add_3 cJ2_add_3 5 none 2 := ⟨q1034, q1035, q104, q1036, ⟨by decide, by decide, by decide +kernel⟩⟩
