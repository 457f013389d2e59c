/-! the list: one taken out -/
def remN (x : Nat → Nat) (i : Nat) : Nat → Nat := fun j => if j < i then x j else x (j + 1)
/-- the things of a list are offers that lie outside P -/
def ElR (g : GT) (P : Nat → Prop) (x : Nat → Nat) (n : Nat) (H : Heap) : Prop := ∀ j, j < n → ¬ P (x j) ∧ ∃ fs, Ob g (x j) 5 fs H
theorem ElR.on {g : GT} {P : Nat → Prop} {x : Nat → Nat} {n a : Nat} {H H1 : Heap} (h : ElR g P x n H) (e : On a H H1) (ha : P a) : ElR g P x n H1 := fun j hj => ⟨(h j hj).1, by
  obtain ⟨n1, fs, o⟩ := h j hj
  exact ⟨fs, o.on e (fun q => n1 (q.symm ▸ ha))⟩⟩
theorem el_ok {g : GT} {P : Nat → Prop} {x : Nat → Nat} {n : Nat} {H : Heap} {f : Nat → Option Nat} (hx : ∀ j, j < n → f j = some (x j)) (h : ElR g P x n H) {j y : Nat} (hj : j < n) (e : f j = some y) : ∃ (ci : Nat) (fs : List Value) (r : vw_C), Ob g y ci fs H ∧ vwCl[ci]? = some r ∧ Cond.castable r.1 "java/lang/Object" ∈ lw_tbl := by
  obtain ⟨-, fs, o⟩ := h j hj
  have : y = x j := Option.some.inj (e.symm.trans (hx j hj))
  subst this
  exact ⟨5, fs, _, o, rfl, q2326⟩

theorem rem_cpy {f : Nat → Option Nat} {x : Nat → Nat} {n i : Nat} (hx : ∀ j, j < n → f j = some (x j)) (hi : i < n) : ∀ j, j < n - 1 → va_up (va_cpy f f (i + 1) i (n - 1 - i)) (n - 1) none j = some (remN x i j) := fun j hj => by
  unfold remN va_up va_cpy
  rw [if_neg (by omega)]
  by_cases q : j < i
  · rw [if_neg (by omega), if_pos q]; exact hx j (by omega)
  · rw [if_pos (by omega), if_neg q, show i + 1 + (j - i) = j + 1 by omega]; exact hx (j + 1) (by omega)
theorem rem_last {f : Nat → Option Nat} {x : Nat → Nat} {n i : Nat} (hx : ∀ j, j < n → f j = some (x j)) (hi : i < n) (h : n - 1 ≤ i) : ∀ j, j < n - 1 → va_up f (n - 1) none j = some (remN x i j) := fun j hj => by
  unfold remN va_up
  rw [if_neg (by omega), if_pos (by omega)]; exact hx j (by omega)

set_option maxRecDepth 100000 in
set_option maxHeartbeats 4000000 in
theorem ct_J2_fastRemove (l : Launch) (g : GT) (P : Nat → Prop) (x : Nat → Nat) (n a i : Nat) (mc : Int32) (ar cap : Nat) (f : Nat → Option Nat) (hi : i < n) (p1 : P a) (l1 : gLo g ≤ a) (p2 : P ar) (l2 : gLo g ≤ ar) (hne : a ≠ ar) (hnc : n ≤ cap) (hcap : cap ≤ 1000) (hx1 : ∀ j, j < n → f j = some (x j)) : Ct l g yJ2_fastRemove cJ2_fastRemove 4 none 2 0 0 [.ref a, .ref ar, .int (nI i)] (fun H => Ob g a 7 [.int mc, .ref ar, .int (nI n)] H ∧ Aq g ar 4 cap f H ∧ ElR g P x n H) (fun r H H1 => r = none ∧ (∃ f1, Ob g a 7 [.int (mc + nI 1), .ref ar, .int (nI (n - 1))] H1 ∧ Aq g ar 4 cap f1 H1 ∧ ∀ j, j < n - 1 → f1 j = some (remN x i j)) ∧ Chg P H H1) := by
  refine Ct.of (by decide) (Nat.le_of_ble_eq_true rfl) ?_
  intro p e s m args below meth c X hP ls hl
  have hx := X.1
  have hb := X.2.1
  have hKV := X.2.2.2.2.2.2.2.1.1
  have hL : ∀ q ∈ ([] : List Loc), gLo g ≤ q.base := fun _ h => by cases h
  obtain ⟨ob, aq, hel⟩ := hP
  have hl : lv_has ls 4 [(0, .ref a), (1, .ref ar), (2, .int (nI i))] := hl
  have hC : Chg P s.heap s.heap := Chg.rfl'
  refine lv_aload_n hx hb dJ2_fastRemove_0 rfl (lv_at hl 0 rfl) ?_
  refine lv_dup hx hb dJ2_fastRemove_1 rfl ?_
  refine r_get (C := RJ2) (T := TJ2) (N := 3) (ci := 7) X in_J2 rfl 0 (Nat.le_of_ble_eq_true rfl) q169 (fun x h => u_same (X.2.2.2.2.1 _ q170) x h) ob rfl dJ2_fastRemove_2 ?_
  refine lv_iconst (v := nI 1) hx hb dJ2_fastRemove_5 (by decide) ?_
  refine lv_iadd hx hb dJ2_fastRemove_6 ?_
  refine r_put (C := RJ2) (T := TJ2) (N := 3) (ci := 7) X in_J2 tyJ2 tyJ2_ok nmJ2 rfl 0 (Nat.le_of_ble_eq_true rfl) q169 (fun x h => u_same (X.2.2.2.2.1 _ q170) x h) rfl hL ob l1 rfl rfl (Nat.le_of_ble_eq_true rfl) dJ2_fastRemove_7 (fun H locs hL h1 h2 => ?_)
  have ob : Ob g a 7 [.int (mc + (nI 1)), .ref ar, .int (nI n)] H := h1
  have aq := aq.on h2 (Ne.symm hne)
  have hel := hel.on h2 p1
  have hC := hC.trans (h2.chg p1)
  refine lv_aload_n hx hb dJ2_fastRemove_10 rfl (lv_at hl 0 rfl) ?_
  refine r_get (C := RJ2) (T := TJ2) (N := 3) (ci := 7) X in_J2 rfl 2 (Nat.le_of_ble_eq_true rfl) q167 (fun _ h => h) ob rfl dJ2_fastRemove_11 ?_
  refine lv_iconst (v := nI 1) hx hb dJ2_fastRemove_14 (by decide) ?_
  refine n_isub X (by omega) dJ2_fastRemove_15 ?_
  refine lv_dup hx hb dJ2_fastRemove_16 rfl ?_
  refine lv_istore_n (lv' := [(3, .int _), (0, .ref _), (1, .ref _), (2, .int _)]) hx hb dJ2_fastRemove_17 rfl hl (by decide) rfl (fun ls hl => ?_)
  refine lv_iload_n hx hb dJ2_fastRemove_18 rfl (lv_at hl 3 rfl) ?_
  refine n_icmp_le (tgt := 34) X dJ2_fastRemove_19 (by decide) (by omega) (by omega) (fun c_19 => ?_) (fun c_19 => ?_)
  ·
    refine lv_aload_n hx hb dJ2_fastRemove_34 rfl (lv_at hl 2 rfl) ?_
    refine lv_aload_n hx hb dJ2_fastRemove_35 rfl (lv_at hl 1 rfl) ?_
    refine lv_iload_n hx hb dJ2_fastRemove_36 rfl (lv_at hl 0 rfl) ?_
    refine lv_dup_x1 hx hb dJ2_fastRemove_37 rfl rfl ?_
    refine r_put (C := RJ2) (T := TJ2) (N := 3) (ci := 7) X in_J2 tyJ2 tyJ2_ok nmJ2 rfl 2 (Nat.le_of_ble_eq_true rfl) q167 (fun _ h => h) rfl hL ob l1 rfl rfl (Nat.le_of_ble_eq_true rfl) dJ2_fastRemove_38 (fun H locs hL h1 h2 => ?_)
    have ob : Ob g a 7 [.int (mc + (nI 1)), .ref ar, .int (nI (n - 1))] H := h1
    have aq := aq.on h2 (Ne.symm hne)
    have hel := hel.on h2 p1
    have hC := hC.trans (h2.chg p1)
    refine lv_null hx hb dJ2_fastRemove_41 ?_
    refine r_qst0 (k := 4) X hL aq rfl l2 (n - 1) (nI_cl (by omega) rfl) (nI_nn (by omega) rfl) (by omega) dJ2_fastRemove_42 (fun H locs hL h1 h2 => ?_)
    have aq : Aq g ar 4 cap (va_up f (n - 1) none) H := h1
    have ob := ob.on h2 hne
    have hel := hel.on h2 p2
    have hC := hC.trans (h2.chg p2)
    exact r_vret X hL dJ2_fastRemove_43 (by omega) (by omega) ⟨rfl, ⟨_, ob, aq, rem_last hx1 hi (by omega)⟩, hC⟩
  ·
    refine lv_aload_n hx hb dJ2_fastRemove_22 rfl (lv_at hl 2 rfl) ?_
    refine lv_iload_n hx hb dJ2_fastRemove_23 rfl (lv_at hl 3 rfl) ?_
    refine lv_iconst (v := nI 1) hx hb dJ2_fastRemove_24 (by decide) ?_
    refine n_iadd X dJ2_fastRemove_25 ?_
    refine lv_aload_n hx hb dJ2_fastRemove_26 rfl (lv_at hl 2 rfl) ?_
    refine lv_iload_n hx hb dJ2_fastRemove_27 rfl (lv_at hl 3 rfl) ?_
    refine lv_iload_n hx hb dJ2_fastRemove_28 rfl (lv_at hl 0 rfl) ?_
    refine lv_iload_n hx hb dJ2_fastRemove_29 rfl (lv_at hl 3 rfl) ?_
    refine n_isub X (by omega) dJ2_fastRemove_30 ?_
    refine r_copyq (k := 4) X hl hL aq aq rfl l2 q616 q419 q418 q122 (nI_pos (by omega)) (nI_pos (by omega)) (nI_pos (by omega)) (by rw [nI_clamp (n := i + 1) (by omega), nI_clamp (n := (n - 1) - i) (by omega)]; omega) (by rw [nI_clamp (n := i) (by omega), nI_clamp (n := (n - 1) - i) (by omega)]; omega) (fun z hz y hy => el_ok hx1 hel (by rw [nI_clamp (n := n - 1 - i) (by omega)] at hz; rw [nI_clamp (n := i + 1) (by omega)]; omega) hy) (Nat.le_of_ble_eq_true rfl) (Nat.le_of_ble_eq_true rfl) dJ2_fastRemove_31 (fun H locs hL h1 h2 => ?_)
    rw [nI_clamp (n := i + 1) (by omega), nI_clamp (n := i) (by omega), nI_clamp (n := (n - 1) - i) (by omega)] at h1
    have aq : Aq g ar 4 cap (va_cpy f f (i + 1) i ((n - 1) - i)) H := h1
    have ob := ob.on h2 hne
    have hel := hel.on h2 p2
    have hC := hC.trans (h2.chg p2)
    refine lv_aload_n hx hb dJ2_fastRemove_34 rfl (lv_at hl 2 rfl) ?_
    refine lv_aload_n hx hb dJ2_fastRemove_35 rfl (lv_at hl 1 rfl) ?_
    refine lv_iload_n hx hb dJ2_fastRemove_36 rfl (lv_at hl 0 rfl) ?_
    refine lv_dup_x1 hx hb dJ2_fastRemove_37 rfl rfl ?_
    refine r_put (C := RJ2) (T := TJ2) (N := 3) (ci := 7) X in_J2 tyJ2 tyJ2_ok nmJ2 rfl 2 (Nat.le_of_ble_eq_true rfl) q167 (fun _ h => h) rfl hL ob l1 rfl rfl (Nat.le_of_ble_eq_true rfl) dJ2_fastRemove_38 (fun H locs hL h1 h2 => ?_)
    have ob : Ob g a 7 [.int (mc + (nI 1)), .ref ar, .int (nI (n - 1))] H := h1
    have aq := aq.on h2 (Ne.symm hne)
    have hel := hel.on h2 p1
    have hC := hC.trans (h2.chg p1)
    refine lv_null hx hb dJ2_fastRemove_41 ?_
    refine r_qst0 (k := 4) X hL aq rfl l2 (n - 1) (nI_cl (by omega) rfl) (nI_nn (by omega) rfl) (by omega) dJ2_fastRemove_42 (fun H locs hL h1 h2 => ?_)
    have aq : Aq g ar 4 cap (va_up (va_cpy f f (i + 1) i ((n - 1) - i)) (n - 1) none) H := h1
    have ob := ob.on h2 hne
    have hel := hel.on h2 p2
    have hC := hC.trans (h2.chg p2)
    exact r_vret X hL dJ2_fastRemove_43 (by omega) (by omega) ⟨rfl, ⟨_, ob, aq, rem_cpy hx1 hi⟩, hC⟩
theorem vb_J2_fastRemove : VB yJ2_fastRemove cJ2_fastRemove 4 none 2 := ⟨q614, qs10, q104, q615, ⟨by decide, by decide, by decide +kernel⟩⟩

set_option maxRecDepth 100000 in
set_option maxHeartbeats 4000000 in
theorem ct_J2_remove (l : Launch) (g : GT) (P : Nat → Prop) (x : Nat → Nat) (n a i : Nat) (hi : i < n) : Ct l g yJ2_remove cJ2_remove 4 (some (.object "java/lang/Object")) 4 0 0 [.ref a, .int (nI i)] (fun H => LstR g P x n a H ∧ ElR g P x n H) (fun r H H1 => r = some (.ref (x i)) ∧ LstR g P (remN x i) (n - 1) a H1 ∧ Chg P H H1) := by
  refine Ct.of (by decide) (Nat.le_of_ble_eq_true rfl) ?_
  intro p e s m args below meth c X hP ls hl
  have hx := X.1
  have hb := X.2.1
  have hKV := X.2.2.2.2.2.2.2.1.1
  have hL : ∀ q ∈ ([] : List Loc), gLo g ≤ q.base := fun _ h => by cases h
  obtain ⟨⟨mc, ar, cap, f, p1, l1, ob, aq, hnc, hcap, hne, hx1, he⟩, hel⟩ := hP
  have hl : lv_has ls 4 [(0, .ref a), (1, .int (nI i))] := hl
  have hC : Chg P s.heap s.heap := Chg.rfl'
  obtain ⟨p2, l2, hcp⟩ : P ar ∧ gLo g ≤ ar ∧ 0 < cap := he.resolve_left (fun q => by omega)
  refine lv_iload_n hx hb dJ2_remove_0 rfl (lv_at hl 1 rfl) ?_
  refine lv_aload_n hx hb dJ2_remove_1 rfl (lv_at hl 0 rfl) ?_
  refine r_get (C := RJ2) (T := TJ2) (N := 3) (ci := 7) X in_J2 rfl 2 (Nat.le_of_ble_eq_true rfl) q167 (fun _ h => h) ob rfl dJ2_remove_2 ?_
  refine Cp.callS (v := .int (nI i)) (ct_J13_checkIndex l g i n (by omega) (by omega)) X hL hl sb_J13_checkIndex q346 rfl rfl (Nat.le_of_ble_eq_true rfl) dJ2_remove_5 ⟨Nat.le_of_ble_eq_true rfl, Nat.le_of_ble_eq_true rfl⟩ (by omega) (by omega) trivial (fun locs hL => ?_)
  refine lv_pop hx hb dJ2_remove_8 rfl ?_
  refine lv_aload_n hx hb dJ2_remove_9 rfl (lv_at hl 0 rfl) ?_
  refine r_get (C := RJ2) (T := TJ2) (N := 3) (ci := 7) X in_J2 rfl 1 (Nat.le_of_ble_eq_true rfl) q166 (fun _ h => h) ob rfl dJ2_remove_10 ?_
  refine lv_astore_n (lv' := [(2, .ref _), (0, .ref _), (1, .int _)]) hx hb dJ2_remove_13 rfl hl (by decide) rfl (fun ls hl => ?_)
  refine lv_aload_n hx hb dJ2_remove_14 rfl (lv_at hl 0 rfl) ?_
  refine lv_iload_n hx hb dJ2_remove_15 rfl (lv_at hl 2 rfl) ?_
  refine r_qld (k := 4) X aq rfl i (nI_cl (by omega) rfl) (nI_nn (by omega) rfl) (by omega) dJ2_remove_16 ?_
  rw [show va_rf (f i) = .ref (x i) from by rw [hx1 i hi]; rfl]
  refine lv_astore_n (lv' := [(3, .ref _), (2, .ref _), (0, .ref _), (1, .int _)]) hx hb dJ2_remove_17 rfl hl (by decide) rfl (fun ls hl => ?_)
  refine lv_aload_n hx hb dJ2_remove_18 rfl (lv_at hl 2 rfl) ?_
  refine lv_aload_n hx hb dJ2_remove_19 rfl (lv_at hl 1 rfl) ?_
  refine lv_iload_n hx hb dJ2_remove_20 rfl (lv_at hl 3 rfl) ?_
  refine Ct.callV (ct_J2_fastRemove l g P x n a i mc ar cap f hi p1 l1 p2 l2 hne hnc hcap hx1) X hL hl vb_J2_fastRemove q612 (ob.recv hKV rfl) rfl rfl (Nat.le_of_ble_eq_true rfl) dJ2_remove_21 ⟨Nat.le_of_ble_eq_true rfl, Nat.le_of_ble_eq_true rfl⟩ (by omega) (by omega) ⟨ob, aq, hel⟩ (fun r H locs hL hp => ?_)
  obtain ⟨rfl, ⟨f1, ob, aq, hx2⟩, hC1⟩ := hp
  have hC := hC.trans hC1
  refine lv_aload_n hx hb dJ2_remove_24 rfl (lv_at hl 0 rfl) ?_
  exact r_aret X hL rfl (Or.inl ⟨_, rfl⟩) (Or.inr ⟨_, rfl⟩) dJ2_remove_25 (by omega) (by omega) ⟨rfl, ⟨_, ar, cap, f1, p1, l1, ob, aq, by omega, hcap, hne, hx2, Or.inr ⟨p2, l2, hcp⟩⟩, hC⟩
theorem vb_J2_remove : VB yJ2_remove cJ2_remove 4 (some (.object "java/lang/Object")) 1 := ⟨q609, q610, q104, q611, ⟨by decide, by decide, by decide +kernel⟩⟩
