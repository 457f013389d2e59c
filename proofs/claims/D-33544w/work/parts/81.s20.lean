/-! the deque: seven places, at most six states -/
def DqR (g : GT) (P : Nat → Prop) (x : Nat → Nat) (k a : Nat) (H : Heap) : Prop := ∃ (ar h : Nat) (f : Nat → Option Nat), P a ∧ gLo g ≤ a ∧ P ar ∧ gLo g ≤ ar ∧ a ≠ ar ∧ h < 7 ∧ k ≤ 6 ∧ Ob g a 8 [.ref ar, .int (nI h), .int (nI ((h + k) % 7))] H ∧ Aq g ar 4 7 f H ∧ ∀ j, j < k → f ((h + j) % 7) = some (x j)
theorem DqR.keep {g : GT} {P Q : Nat → Prop} {x : Nat → Nat} {k a : Nat} {H H1 : Heap} (h : DqR g P x k a H) (c : Chg Q H H1) (d : ∀ q, P q → ¬ Q q) : DqR g P x k a H1 := by
  obtain ⟨ar, hd, f, h1, h2, h3, h4, h5, h6, h7, h8, h9, h10⟩ := h
  exact ⟨ar, hd, f, h1, h2, h3, h4, h5, h6, h7, h8.chg c (d _ h1), h9.chg c (d _ h3), h10⟩
theorem DqR.recv {g : GT} {s : State} {P : Nat → Prop} {x : Nat → Nat} {k a : Nat} {H : Heap} (h : DqR g P x k a H) (hK : KV g s) : ∃ cellB : Cell, H[a]? = some cellB ∧ cellB.vm.isStatics = false ∧ s.vm.findClass RJ3 = some cellB.cls := by
  obtain ⟨ar, hd, f, h1, h2, h3, h4, h5, h6, h7, h8, h9, h10⟩ := h
  exact h8.recv hK rfl
theorem DqR.ext {g : GT} {P : Nat → Prop} {x : Nat → Nat} {k a : Nat} {H H1 : Heap} (h : DqR g P x k a H) (e : Ext H H1) : DqR g P x k a H1 := by
  obtain ⟨ar, hd, f, h1, h2, h3, h4, h5, h6, h7, h8, h9, h10⟩ := h
  exact ⟨ar, hd, f, h1, h2, h3, h4, h5, h6, h7, h8.ext e, h9.ext e, h10⟩
theorem DqR.to {g : GT} {P Q : Nat → Prop} {x y : Nat → Nat} {k a : Nat} {H : Heap} (h : DqR g P x k a H) (e : ∀ j, j < k → x j = y j) (hP : ∀ q, P q → q < H.size → Q q) : DqR g Q y k a H := by
  obtain ⟨ar, hd, f, h1, h2, h3, h4, h5, h6, h7, h8, h9, h10⟩ := h
  exact ⟨ar, hd, f, hP _ h1 h8.lt, h2, hP _ h3 h9.lt, h4, h5, h6, h7, h8, h9, fun j hj => (h10 j hj).trans (congrArg some (e j hj))⟩
def consN (q : Nat) (x : Nat → Nat) : Nat → Nat := fun j => if j = 0 then q else x (j - 1)
theorem dq_push {f : Nat → Option Nat} {x : Nat → Nat} {h k q : Nat} (hh : h < 7) (hk : k ≤ 5) (hx : ∀ j, j < k → f ((h + j) % 7) = some (x j)) : ∀ j, j < k + 1 → va_up f (dcN h 7) (some q) ((dcN h 7 + j) % 7) = some (consN q x j) := fun j hj => by
  unfold va_up consN dcN
  by_cases e : j = 0
  · subst e; rw [if_pos rfl, if_pos (by split <;> omega)]
  · rw [if_neg e, if_neg (by split <;> omega), ← hx (j - 1) (by omega)]
    congr 1
    split <;> omega
theorem dq_last {f : Nat → Option Nat} {x : Nat → Nat} {h k : Nat} (hh : h < 7) (hk : k ≤ 6) (h0 : 0 < k) (hx : ∀ j, j < k → f ((h + j) % 7) = some (x j)) : f (dcN ((h + k) % 7) 7) = some (x (k - 1)) ∧ dcN ((h + k) % 7) 7 = (h + (k - 1)) % 7 ∧ ∀ j, j < k - 1 → va_up f (dcN ((h + k) % 7) 7) none ((h + j) % 7) = some (x j) := by
  have e : dcN ((h + k) % 7) 7 = (h + (k - 1)) % 7 := by unfold dcN; split <;> omega
  rw [e]
  refine ⟨hx _ (by omega), rfl, fun j hj => ?_⟩
  unfold va_up
  rw [if_neg (by omega)]; exact hx j (by omega)
theorem dq_first {f : Nat → Option Nat} {x : Nat → Nat} {h k : Nat} (hh : h < 7) (hk : k ≤ 6) (h0 : 0 < k) (hx : ∀ j, j < k → f ((h + j) % 7) = some (x j)) : f h = some (x 0) ∧ icN h 7 < 7 ∧ (h + k) % 7 = (icN h 7 + (k - 1)) % 7 ∧ ∀ j, j < k - 1 → va_up f h none ((icN h 7 + j) % 7) = some (x (j + 1)) := by
  have e := hx 0 h0
  rw [Nat.add_zero, Nat.mod_eq_of_lt hh] at e
  have i : icN h 7 < 7 := by unfold icN; split <;> omega
  refine ⟨e, i, by unfold icN; split <;> omega, fun j hj => ?_⟩
  have := hx (j + 1) (by omega)
  unfold va_up
  rw [if_neg (by unfold icN; split <;> omega), ← this]
  congr 1
  unfold icN; split <;> omega
theorem dq_sz {h k : Nat} (hh : h < 7) (hk : k ≤ 6) : sbN ((h + k) % 7) h 7 = k := by unfold sbN; split <;> omega
theorem dq_dc {h : Nat} (hh : h < 7) : dcN h 7 < 7 := by unfold dcN; split <;> omega
theorem dq_dc2 {h k : Nat} (hh : h < 7) (hk : k ≤ 5) : (dcN h 7 + (k + 1)) % 7 = (h + k) % 7 ∧ dcN h 7 ≠ (h + k) % 7 := by unfold dcN; split <;> omega

set_option maxRecDepth 100000 in
set_option maxHeartbeats 4000000 in
theorem ct_J3_elementAt (l : Launch) (g : GT) (ar : Nat) (f : Nat → Option Nat) (i j : Nat) (hi : i < 7) (hf : f i = some j) : Ct l g yJ3_elementAt cJ3_elementAt 2 (some (.object "java/lang/Object")) 1 0 0 [.ref ar, .int (nI i)] (Aq g ar 4 7 f) (fun r H H1 => r = some (.ref j) ∧ H1 = H) := by
  refine Ct.of (by decide) (Nat.le_of_ble_eq_true rfl) ?_
  intro p e s m args below meth c X hP ls hl
  have hx := X.1
  have hb := X.2.1
  have hKV := X.2.2.2.2.2.2.2.1.1
  have hL : ∀ q ∈ ([] : List Loc), gLo g ≤ q.base := fun _ h => by cases h
  have aq := hP
  have hl : lv_has ls 2 [(0, .ref ar), (1, .int (nI i))] := hl
  refine lv_aload_n hx hb dJ3_elementAt_0 rfl (lv_at hl 0 rfl) ?_
  refine lv_iload_n hx hb dJ3_elementAt_1 rfl (lv_at hl 1 rfl) ?_
  refine r_qld (k := 4) X aq rfl i (nI_cl (by omega) rfl) (nI_nn (by omega) rfl) (by omega) dJ3_elementAt_2 ?_
  rw [show va_rf (f i) = .ref j from by rw [hf]; rfl]
  exact r_aret X hL rfl (Or.inl ⟨_, rfl⟩) (Or.inr ⟨_, rfl⟩) dJ3_elementAt_3 (by omega) (by omega) ⟨rfl, rfl⟩
theorem sb_J3_elementAt : SB yJ3_elementAt cJ3_elementAt 2 (some (.object "java/lang/Object")) 2 := ⟨q324, q106, q325, ⟨by decide, by decide, by decide +kernel⟩⟩

set_option maxRecDepth 100000 in
set_option maxHeartbeats 4000000 in
theorem ct_J3_size (l : Launch) (g : GT) (P : Nat → Prop) (x : Nat → Nat) (k a : Nat)  : Ct l g yJ3_size cJ3_size 1 (some .int) 2 0 0 [.ref a] (DqR g P x k a) (fun r H H1 => r = some (.int (nI k)) ∧ H1 = H) := by
  refine Ct.of (by decide) (Nat.le_of_ble_eq_true rfl) ?_
  intro p e s m args below meth c X hP ls hl
  have hx := X.1
  have hb := X.2.1
  have hKV := X.2.2.2.2.2.2.2.1.1
  have hL : ∀ q ∈ ([] : List Loc), gLo g ≤ q.base := fun _ h => by cases h
  obtain ⟨ar, h, f, p1, l1, p2, l2, hne, hh, hk, ob, aq, hx1⟩ := hP
  have hl : lv_has ls 1 [(0, .ref a)] := hl
  refine lv_aload_n hx hb dJ3_size_0 rfl (lv_at hl 0 rfl) ?_
  refine r_get (C := RJ3) (T := TJ3) (N := 3) (ci := 8) X in_J3 rfl 2 (Nat.le_of_ble_eq_true rfl) q238 (fun _ h => h) ob rfl dJ3_size_1 ?_
  refine lv_aload_n hx hb dJ3_size_4 rfl (lv_at hl 0 rfl) ?_
  refine r_get (C := RJ3) (T := TJ3) (N := 3) (ci := 8) X in_J3 rfl 1 (Nat.le_of_ble_eq_true rfl) q237 (fun _ h => h) ob rfl dJ3_size_5 ?_
  refine lv_aload_n hx hb dJ3_size_8 rfl (lv_at hl 0 rfl) ?_
  refine r_get (C := RJ3) (T := TJ3) (N := 3) (ci := 8) X in_J3 rfl 0 (Nat.le_of_ble_eq_true rfl) q236 (fun _ h => h) ob rfl dJ3_size_9 ?_
  refine r_lenq (k := 4) (v := nI 7) X aq rfl rfl dJ3_size_12 ?_
  refine Cp.callS (v := .int (nI (sbN ((h + k) % 7) h 7))) (ct_J3_sub l g ((h + k) % 7) h 7 (by omega) hh (by omega)) X hL hl sb_J3_sub q309 rfl rfl (Nat.le_of_ble_eq_true rfl) dJ3_size_13 ⟨Nat.le_of_ble_eq_true rfl, Nat.le_of_ble_eq_true rfl⟩ (by omega) (by omega) trivial (fun locs hL => ?_)
  rw [dq_sz hh hk]
  exact r_iret X hL rfl rfl dJ3_size_16 (by omega) (by omega) ⟨rfl, rfl⟩
theorem vb_J3_size : VB yJ3_size cJ3_size 1 (some .int) 0 := ⟨q306, q307, q106, q308, ⟨by decide, by decide, by decide +kernel⟩⟩

set_option maxRecDepth 100000 in
set_option maxHeartbeats 4000000 in
theorem ct_J3_isEmpty (l : Launch) (g : GT) (P : Nat → Prop) (x : Nat → Nat) (k a : Nat)  : Ct l g yJ3_isEmpty cJ3_isEmpty 1 (some .boolean) 1 0 0 [.ref a] (DqR g P x k a) (fun r H H1 => r = some (.int (bI (decide (k = 0)))) ∧ H1 = H) := by
  refine Ct.of (by decide) (Nat.le_of_ble_eq_true rfl) ?_
  intro p e s m args below meth c X hP ls hl
  have hx := X.1
  have hb := X.2.1
  have hKV := X.2.2.2.2.2.2.2.1.1
  have hL : ∀ q ∈ ([] : List Loc), gLo g ≤ q.base := fun _ h => by cases h
  obtain ⟨ar, h, f, p1, l1, p2, l2, hne, hh, hk, ob, aq, hx1⟩ := hP
  have hl : lv_has ls 1 [(0, .ref a)] := hl
  refine lv_aload_n hx hb dJ3_isEmpty_0 rfl (lv_at hl 0 rfl) ?_
  refine r_get (C := RJ3) (T := TJ3) (N := 3) (ci := 8) X in_J3 rfl 1 (Nat.le_of_ble_eq_true rfl) q237 (fun _ h => h) ob rfl dJ3_isEmpty_1 ?_
  refine lv_aload_n hx hb dJ3_isEmpty_4 rfl (lv_at hl 0 rfl) ?_
  refine r_get (C := RJ3) (T := TJ3) (N := 3) (ci := 8) X in_J3 rfl 2 (Nat.le_of_ble_eq_true rfl) q238 (fun _ h => h) ob rfl dJ3_isEmpty_5 ?_
  refine n_icmp_ne (tgt := 15) X dJ3_isEmpty_8 (by decide) (by omega) (by omega) (fun c_8 => ?_) (fun c_8 => ?_)
  ·
    refine lv_iconst (v := nI 0) hx hb dJ3_isEmpty_15 (by decide) ?_
    exact r_iret X hL rfl rfl dJ3_isEmpty_16 (by omega) (by omega) ⟨v_f (decide_eq_false (by omega)), rfl⟩
  ·
    refine lv_iconst (v := nI 1) hx hb dJ3_isEmpty_11 (by decide) ?_
    refine lv_goto (tgt := 16) hx hb dJ3_isEmpty_12 (by decide) ?_
    exact r_iret X hL rfl rfl dJ3_isEmpty_16 (by omega) (by omega) ⟨v_t (decide_eq_true (by omega)), rfl⟩
theorem vb_J3_isEmpty : VB yJ3_isEmpty cJ3_isEmpty 1 (some .boolean) 0 := ⟨q1534, q1535, q106, q1536, ⟨by decide, by decide, by decide +kernel⟩⟩

set_option maxRecDepth 100000 in
set_option maxHeartbeats 4000000 in
theorem ct_J3_addFirst (l : Launch) (g : GT) (P : Nat → Prop) (x : Nat → Nat) (k a : Nat) (q : Nat) (hk5 : k ≤ 5) (hq : ¬ P q) : Ct l g yJ3_addFirst cJ3_addFirst 3 none 2 0 0 [.ref a, .ref q] (fun H => DqR g P x k a H ∧ ∃ fs, Ob g q 2 fs H) (fun r H H1 => r = none ∧ DqR g P (consN q x) (k + 1) a H1 ∧ Chg P H H1) := by
  refine Ct.of (by decide) (Nat.le_of_ble_eq_true rfl) ?_
  intro p e s m args below meth c X hP ls hl
  have hx := X.1
  have hb := X.2.1
  have hKV := X.2.2.2.2.2.2.2.1.1
  have hL : ∀ q ∈ ([] : List Loc), gLo g ≤ q.base := fun _ h => by cases h
  obtain ⟨⟨ar, h, f, p1, l1, p2, l2, hne, hh, hk, ob, aq, hx1⟩, fs, oq⟩ := hP
  have hl : lv_has ls 3 [(0, .ref a), (1, .ref q)] := hl
  have hC : Chg P s.heap s.heap := Chg.rfl'
  have hqa : q ≠ a := fun z => hq (z ▸ p1)
  refine lv_aload_n hx hb dJ3_addFirst_0 rfl (lv_at hl 1 rfl) ?_
  refine lv_ifnonnull (tgt := 12) hx hb dJ3_addFirst_1 (by decide) ?_
  refine lv_aload_n hx hb dJ3_addFirst_12 rfl (lv_at hl 0 rfl) ?_
  refine r_get (C := RJ3) (T := TJ3) (N := 3) (ci := 8) X in_J3 rfl 0 (Nat.le_of_ble_eq_true rfl) q236 (fun _ h => h) ob rfl dJ3_addFirst_13 ?_
  refine lv_astore_n (lv' := [(2, .ref _), (0, .ref _), (1, .ref _)]) hx hb dJ3_addFirst_16 rfl hl (by decide) rfl (fun ls hl => ?_)
  refine lv_aload_n hx hb dJ3_addFirst_17 rfl (lv_at hl 0 rfl) ?_
  refine lv_aload_n hx hb dJ3_addFirst_18 rfl (lv_at hl 1 rfl) ?_
  refine lv_aload_n hx hb dJ3_addFirst_19 rfl (lv_at hl 1 rfl) ?_
  refine r_get (C := RJ3) (T := TJ3) (N := 3) (ci := 8) X in_J3 rfl 1 (Nat.le_of_ble_eq_true rfl) q237 (fun _ h => h) ob rfl dJ3_addFirst_20 ?_
  refine lv_aload_n hx hb dJ3_addFirst_23 rfl (lv_at hl 0 rfl) ?_
  refine r_lenq (k := 4) (v := nI 7) X aq rfl rfl dJ3_addFirst_24 ?_
  refine Cp.callS (v := .int (nI (dcN h 7))) (ct_J3_dec l g h 7 hh (by omega)) X hL hl sb_J3_dec q320 rfl rfl (Nat.le_of_ble_eq_true rfl) dJ3_addFirst_25 ⟨Nat.le_of_ble_eq_true rfl, Nat.le_of_ble_eq_true rfl⟩ (by omega) (by omega) trivial (fun locs hL => ?_)
  have hdc := dq_dc hh
  obtain ⟨hd2, hd3⟩ := dq_dc2 hh hk5
  refine lv_dup_x1 hx hb dJ3_addFirst_28 rfl rfl ?_
  refine r_put (C := RJ3) (T := TJ3) (N := 3) (ci := 8) X in_J3 tyJ3 tyJ3_ok nmJ3 rfl 1 (Nat.le_of_ble_eq_true rfl) q237 (fun _ h => h) rfl hL ob l1 rfl rfl (Nat.le_of_ble_eq_true rfl) dJ3_addFirst_29 (fun H locs hL h1 h2 => ?_)
  have ob : Ob g a 8 [.ref ar, .int (nI (dcN h 7)), .int (nI ((h + k) % 7))] H := h1
  have aq := aq.on h2 (Ne.symm hne)
  have oq := oq.on h2 (fun z => hq (z ▸ p1))
  have hC := hC.trans (h2.chg p1)
  refine lv_aload_n hx hb dJ3_addFirst_32 rfl (lv_at hl 2 rfl) ?_
  refine r_qst (k := 4) X hL aq rfl oq rfl (Or.inr q2316) l2 (dcN h 7) (nI_cl (by omega) rfl) (nI_nn (by omega) rfl) (by omega) dJ3_addFirst_33 (fun H locs hL h1 h2 => ?_)
  have aq : Aq g ar 4 7 (va_up f (dcN h 7) (some q)) H := h1
  have ob := ob.on h2 hne
  have oq := oq.on h2 (fun z => hq (z ▸ p2))
  have hC := hC.trans (h2.chg p2)
  refine lv_aload_n hx hb dJ3_addFirst_34 rfl (lv_at hl 1 rfl) ?_
  refine r_get (C := RJ3) (T := TJ3) (N := 3) (ci := 8) X in_J3 rfl 1 (Nat.le_of_ble_eq_true rfl) q237 (fun _ h => h) ob rfl dJ3_addFirst_35 ?_
  refine lv_aload_n hx hb dJ3_addFirst_38 rfl (lv_at hl 1 rfl) ?_
  refine r_get (C := RJ3) (T := TJ3) (N := 3) (ci := 8) X in_J3 rfl 2 (Nat.le_of_ble_eq_true rfl) q238 (fun _ h => h) ob rfl dJ3_addFirst_39 ?_
  refine n_icmp_ne (tgt := 50) X dJ3_addFirst_42 (by decide) (by omega) (by omega) (fun c_42 => ?_) (fun c_42 => ?_)
  ·
    exact r_vret X hL dJ3_addFirst_50 (by omega) (by omega) ⟨rfl, ⟨ar, dcN h 7, _, p1, l1, p2, l2, hne, hdc, by omega, by rw [hd2]; exact ob, aq, dq_push hh hk5 hx1⟩, hC⟩
  ·
    exact absurd c_42 hd3
theorem vb_J3_addFirst : VB yJ3_addFirst cJ3_addFirst 3 none 1 := ⟨q440, q441, q106, q442, ⟨by decide, by decide, by decide +kernel⟩⟩

set_option maxRecDepth 100000 in
set_option maxHeartbeats 4000000 in
theorem ct_J3_push (l : Launch) (g : GT) (P : Nat → Prop) (x : Nat → Nat) (k a : Nat) (q : Nat) (hk5 : k ≤ 5) (hq : ¬ P q) : Ct l g yJ3_push cJ3_push 2 none 3 0 0 [.ref a, .ref q] (fun H => DqR g P x k a H ∧ ∃ fs, Ob g q 2 fs H) (fun r H H1 => r = none ∧ DqR g P (consN q x) (k + 1) a H1 ∧ Chg P H H1) := by
  refine Ct.of (by decide) (Nat.le_of_ble_eq_true rfl) ?_
  intro p e s m args below meth c X hP ls hl
  have hx := X.1
  have hb := X.2.1
  have hKV := X.2.2.2.2.2.2.2.1.1
  have hL : ∀ q ∈ ([] : List Loc), gLo g ≤ q.base := fun _ h => by cases h
  have hP0 := hP
  obtain ⟨⟨ar, h, f, p1, l1, p2, l2, hne, hh, hk, ob, aq, hx1⟩, fs, oq⟩ := hP
  have hl : lv_has ls 2 [(0, .ref a), (1, .ref q)] := hl
  refine lv_aload_n hx hb dJ3_push_0 rfl (lv_at hl 0 rfl) ?_
  refine lv_aload_n hx hb dJ3_push_1 rfl (lv_at hl 1 rfl) ?_
  refine Ct.callV (ct_J3_addFirst l g P x k a q hk5 hq) X hL hl vb_J3_addFirst q439 (ob.recv hKV rfl) rfl rfl (Nat.le_of_ble_eq_true rfl) dJ3_push_2 ⟨Nat.le_of_ble_eq_true rfl, Nat.le_of_ble_eq_true rfl⟩ (by omega) (by omega) hP0 (fun r H locs hL hp => ?_)
  obtain ⟨rfl, hd, hC1⟩ := hp
  exact r_vret X hL dJ3_push_5 (by omega) (by omega) ⟨rfl, hd, hC1⟩
theorem vb_J3_push : VB yJ3_push cJ3_push 2 none 1 := ⟨q436, q437, q106, q438, ⟨by decide, by decide, by decide +kernel⟩⟩

set_option maxRecDepth 100000 in
set_option maxHeartbeats 4000000 in
theorem ct_J3_pollLast (l : Launch) (g : GT) (P : Nat → Prop) (x : Nat → Nat) (k a : Nat) (h0 : 0 < k) : Ct l g yJ3_pollLast cJ3_pollLast 4 (some (.object "java/lang/Object")) 2 0 0 [.ref a] (DqR g P x k a) (fun r H H1 => r = some (.ref (x (k - 1))) ∧ DqR g P x (k - 1) a H1 ∧ Chg P H H1) := by
  refine Ct.of (by decide) (Nat.le_of_ble_eq_true rfl) ?_
  intro p e s m args below meth c X hP ls hl
  have hx := X.1
  have hb := X.2.1
  have hKV := X.2.2.2.2.2.2.2.1.1
  have hL : ∀ q ∈ ([] : List Loc), gLo g ≤ q.base := fun _ h => by cases h
  obtain ⟨ar, h, f, p1, l1, p2, l2, hne, hh, hk, ob, aq, hx1⟩ := hP
  have hl : lv_has ls 4 [(0, .ref a)] := hl
  have hC : Chg P s.heap s.heap := Chg.rfl'
  refine lv_aload_n hx hb dJ3_pollLast_0 rfl (lv_at hl 0 rfl) ?_
  refine r_get (C := RJ3) (T := TJ3) (N := 3) (ci := 8) X in_J3 rfl 0 (Nat.le_of_ble_eq_true rfl) q236 (fun _ h => h) ob rfl dJ3_pollLast_1 ?_
  refine lv_dup hx hb dJ3_pollLast_4 rfl ?_
  refine lv_astore_n (lv' := [(1, .ref _), (0, .ref _)]) hx hb dJ3_pollLast_5 rfl hl (by decide) rfl (fun ls hl => ?_)
  refine lv_aload_n hx hb dJ3_pollLast_6 rfl (lv_at hl 1 rfl) ?_
  refine r_get (C := RJ3) (T := TJ3) (N := 3) (ci := 8) X in_J3 rfl 2 (Nat.le_of_ble_eq_true rfl) q238 (fun _ h => h) ob rfl dJ3_pollLast_7 ?_
  refine lv_aload_n hx hb dJ3_pollLast_10 rfl (lv_at hl 0 rfl) ?_
  refine r_lenq (k := 4) (v := nI 7) X aq rfl rfl dJ3_pollLast_11 ?_
  refine Cp.callS (v := .int (nI (dcN ((h + k) % 7) 7))) (ct_J3_dec l g ((h + k) % 7) 7 (by omega) (by omega)) X hL hl sb_J3_dec q320 rfl rfl (Nat.le_of_ble_eq_true rfl) dJ3_pollLast_12 ⟨Nat.le_of_ble_eq_true rfl, Nat.le_of_ble_eq_true rfl⟩ (by omega) (by omega) trivial (fun locs hL => ?_)
  obtain ⟨e1, e2, e3⟩ := dq_last hh hk h0 hx1
  have hdc := dq_dc (h := (h + k) % 7) (by omega)
  refine lv_dup hx hb dJ3_pollLast_15 rfl ?_
  refine lv_istore_n (lv' := [(2, .int _), (1, .ref _), (0, .ref _)]) hx hb dJ3_pollLast_16 rfl hl (by decide) rfl (fun ls hl => ?_)
  refine Cp.callS (v := .ref (x (k - 1))) (ct_J3_elementAt l g ar f (dcN ((h + k) % 7) 7) (x (k - 1)) hdc e1) X hL hl sb_J3_elementAt q323 rfl rfl (Nat.le_of_ble_eq_true rfl) dJ3_pollLast_17 ⟨Nat.le_of_ble_eq_true rfl, Nat.le_of_ble_eq_true rfl⟩ (by omega) (by omega) aq (fun locs hL => ?_)
  refine lv_astore_n (lv' := [(3, .ref _), (2, .int _), (1, .ref _), (0, .ref _)]) hx hb dJ3_pollLast_20 rfl hl (by decide) rfl (fun ls hl => ?_)
  refine lv_aload_n hx hb dJ3_pollLast_21 rfl (lv_at hl 0 rfl) ?_
  refine lv_ifnull hx hb dJ3_pollLast_22 ?_
  refine lv_aload_n hx hb dJ3_pollLast_25 rfl (lv_at hl 2 rfl) ?_
  refine lv_aload_n hx hb dJ3_pollLast_26 rfl (lv_at hl 3 rfl) ?_
  refine lv_iload_n hx hb dJ3_pollLast_27 rfl (lv_at hl 1 rfl) ?_
  refine lv_dup_x1 hx hb dJ3_pollLast_28 rfl rfl ?_
  refine r_put (C := RJ3) (T := TJ3) (N := 3) (ci := 8) X in_J3 tyJ3 tyJ3_ok nmJ3 rfl 2 (Nat.le_of_ble_eq_true rfl) q238 (fun _ h => h) rfl hL ob l1 rfl rfl (Nat.le_of_ble_eq_true rfl) dJ3_pollLast_29 (fun H locs hL h1 h2 => ?_)
  have ob : Ob g a 8 [.ref ar, .int (nI h), .int (nI (dcN ((h + k) % 7) 7))] H := h1
  have aq := aq.on h2 (Ne.symm hne)
  have hC := hC.trans (h2.chg p1)
  refine lv_null hx hb dJ3_pollLast_32 ?_
  refine r_qst0 (k := 4) X hL aq rfl l2 (dcN ((h + k) % 7) 7) (nI_cl (by omega) rfl) (nI_nn (by omega) rfl) (by omega) dJ3_pollLast_33 (fun H locs hL h1 h2 => ?_)
  have aq : Aq g ar 4 7 (va_up f (dcN ((h + k) % 7) 7) none) H := h1
  have ob := ob.on h2 hne
  have hC := hC.trans (h2.chg p2)
  refine lv_aload_n hx hb dJ3_pollLast_34 rfl (lv_at hl 0 rfl) ?_
  exact r_aret X hL rfl (Or.inl ⟨_, rfl⟩) (Or.inr ⟨_, rfl⟩) dJ3_pollLast_35 (by omega) (by omega) ⟨rfl, ⟨ar, h, _, p1, l1, p2, l2, hne, hh, by omega, by rw [← e2]; exact ob, aq, e3⟩, hC⟩
theorem vb_J3_pollLast : VB yJ3_pollLast cJ3_pollLast 4 (some (.object "java/lang/Object")) 0 := ⟨q317, q318, q106, q319, ⟨by decide, by decide, by decide +kernel⟩⟩

set_option maxRecDepth 100000 in
set_option maxHeartbeats 4000000 in
theorem ct_J3_pollFirst (l : Launch) (g : GT) (P : Nat → Prop) (x : Nat → Nat) (k a : Nat) (h0 : 0 < k) : Ct l g yJ3_pollFirst cJ3_pollFirst 4 (some (.object "java/lang/Object")) 2 0 0 [.ref a] (DqR g P x k a) (fun r H H1 => r = some (.ref (x 0)) ∧ DqR g P (fun j => x (j + 1)) (k - 1) a H1 ∧ Chg P H H1) := by
  refine Ct.of (by decide) (Nat.le_of_ble_eq_true rfl) ?_
  intro p e s m args below meth c X hP ls hl
  have hx := X.1
  have hb := X.2.1
  have hKV := X.2.2.2.2.2.2.2.1.1
  have hL : ∀ q ∈ ([] : List Loc), gLo g ≤ q.base := fun _ h => by cases h
  obtain ⟨ar, h, f, p1, l1, p2, l2, hne, hh, hk, ob, aq, hx1⟩ := hP
  have hl : lv_has ls 4 [(0, .ref a)] := hl
  have hC : Chg P s.heap s.heap := Chg.rfl'
  refine lv_aload_n hx hb dJ3_pollFirst_0 rfl (lv_at hl 0 rfl) ?_
  refine r_get (C := RJ3) (T := TJ3) (N := 3) (ci := 8) X in_J3 rfl 0 (Nat.le_of_ble_eq_true rfl) q236 (fun _ h => h) ob rfl dJ3_pollFirst_1 ?_
  refine lv_dup hx hb dJ3_pollFirst_4 rfl ?_
  refine lv_astore_n (lv' := [(1, .ref _), (0, .ref _)]) hx hb dJ3_pollFirst_5 rfl hl (by decide) rfl (fun ls hl => ?_)
  refine lv_aload_n hx hb dJ3_pollFirst_6 rfl (lv_at hl 1 rfl) ?_
  refine r_get (C := RJ3) (T := TJ3) (N := 3) (ci := 8) X in_J3 rfl 1 (Nat.le_of_ble_eq_true rfl) q237 (fun _ h => h) ob rfl dJ3_pollFirst_7 ?_
  refine lv_dup hx hb dJ3_pollFirst_10 rfl ?_
  refine lv_istore_n (lv' := [(2, .int _), (1, .ref _), (0, .ref _)]) hx hb dJ3_pollFirst_11 rfl hl (by decide) rfl (fun ls hl => ?_)
  obtain ⟨e1, e2, e3, e4⟩ := dq_first hh hk h0 hx1
  refine Cp.callS (v := .ref (x 0)) (ct_J3_elementAt l g ar f h (x 0) hh e1) X hL hl sb_J3_elementAt q323 rfl rfl (Nat.le_of_ble_eq_true rfl) dJ3_pollFirst_12 ⟨Nat.le_of_ble_eq_true rfl, Nat.le_of_ble_eq_true rfl⟩ (by omega) (by omega) aq (fun locs hL => ?_)
  refine lv_astore_n (lv' := [(3, .ref _), (2, .int _), (1, .ref _), (0, .ref _)]) hx hb dJ3_pollFirst_15 rfl hl (by decide) rfl (fun ls hl => ?_)
  refine lv_aload_n hx hb dJ3_pollFirst_16 rfl (lv_at hl 0 rfl) ?_
  refine lv_ifnull hx hb dJ3_pollFirst_17 ?_
  refine lv_aload_n hx hb dJ3_pollFirst_20 rfl (lv_at hl 2 rfl) ?_
  refine lv_iload_n hx hb dJ3_pollFirst_21 rfl (lv_at hl 1 rfl) ?_
  refine lv_null hx hb dJ3_pollFirst_22 ?_
  refine r_qst0 (k := 4) X hL aq rfl l2 h (nI_cl (by omega) rfl) (nI_nn (by omega) rfl) (by omega) dJ3_pollFirst_23 (fun H locs hL h1 h2 => ?_)
  have aq : Aq g ar 4 7 (va_up f h none) H := h1
  have ob := ob.on h2 hne
  have hC := hC.trans (h2.chg p2)
  refine lv_aload_n hx hb dJ3_pollFirst_24 rfl (lv_at hl 3 rfl) ?_
  refine lv_iload_n hx hb dJ3_pollFirst_25 rfl (lv_at hl 1 rfl) ?_
  refine lv_aload_n hx hb dJ3_pollFirst_26 rfl (lv_at hl 2 rfl) ?_
  refine r_lenq (k := 4) (v := nI 7) X aq rfl rfl dJ3_pollFirst_27 ?_
  refine Cp.callS (v := .int (nI (icN h 7))) (ct_J3_inc l g h 7 hh (by omega)) X hL hl sb_J3_inc q1549 rfl rfl (Nat.le_of_ble_eq_true rfl) dJ3_pollFirst_28 ⟨Nat.le_of_ble_eq_true rfl, Nat.le_of_ble_eq_true rfl⟩ (by omega) (by omega) trivial (fun locs hL => ?_)
  refine r_put (C := RJ3) (T := TJ3) (N := 3) (ci := 8) X in_J3 tyJ3 tyJ3_ok nmJ3 rfl 1 (Nat.le_of_ble_eq_true rfl) q237 (fun _ h => h) rfl hL ob l1 rfl rfl (Nat.le_of_ble_eq_true rfl) dJ3_pollFirst_31 (fun H locs hL h1 h2 => ?_)
  have ob : Ob g a 8 [.ref ar, .int (nI (icN h 7)), .int (nI ((h + k) % 7))] H := h1
  have aq := aq.on h2 (Ne.symm hne)
  have hC := hC.trans (h2.chg p1)
  refine lv_aload_n hx hb dJ3_pollFirst_34 rfl (lv_at hl 0 rfl) ?_
  exact r_aret X hL rfl (Or.inl ⟨_, rfl⟩) (Or.inr ⟨_, rfl⟩) dJ3_pollFirst_35 (by omega) (by omega) ⟨rfl, ⟨ar, icN h 7, _, p1, l1, p2, l2, hne, e2, by omega, by rw [← e3]; exact ob, aq, e4⟩, hC⟩
theorem vb_J3_pollFirst : VB yJ3_pollFirst cJ3_pollFirst 4 (some (.object "java/lang/Object")) 0 := ⟨q1546, q1547, q106, q1548, ⟨by decide, by decide, by decide +kernel⟩⟩

set_option maxRecDepth 100000 in
set_option maxHeartbeats 4000000 in
theorem ct_J3_removeLast (l : Launch) (g : GT) (P : Nat → Prop) (x : Nat → Nat) (k a : Nat) (h0 : 0 < k) : Ct l g yJ3_removeLast cJ3_removeLast 2 (some (.object "java/lang/Object")) 3 0 0 [.ref a] (DqR g P x k a) (fun r H H1 => r = some (.ref (x (k - 1))) ∧ DqR g P x (k - 1) a H1 ∧ Chg P H H1) := by
  refine Ct.of (by decide) (Nat.le_of_ble_eq_true rfl) ?_
  intro p e s m args below meth c X hP ls hl
  have hx := X.1
  have hb := X.2.1
  have hKV := X.2.2.2.2.2.2.2.1.1
  have hL : ∀ q ∈ ([] : List Loc), gLo g ≤ q.base := fun _ h => by cases h
  have hP0 := hP
  obtain ⟨ar, h, f, p1, l1, p2, l2, hne, hh, hk, ob, aq, hx1⟩ := hP
  have hl : lv_has ls 2 [(0, .ref a)] := hl
  refine lv_aload_n hx hb dJ3_removeLast_0 rfl (lv_at hl 0 rfl) ?_
  refine Ct.callV (ct_J3_pollLast l g P x k a h0) X hL hl vb_J3_pollLast q316 (ob.recv hKV rfl) rfl rfl (Nat.le_of_ble_eq_true rfl) dJ3_removeLast_1 ⟨Nat.le_of_ble_eq_true rfl, Nat.le_of_ble_eq_true rfl⟩ (by omega) (by omega) hP0 (fun r H locs hL hp => ?_)
  obtain ⟨rfl, hd, hC1⟩ := hp
  refine lv_astore_n (lv' := [(1, .ref _), (0, .ref _)]) hx hb dJ3_removeLast_4 rfl hl (by decide) rfl (fun ls hl => ?_)
  refine lv_aload_n hx hb dJ3_removeLast_5 rfl (lv_at hl 0 rfl) ?_
  refine lv_ifnonnull (tgt := 17) hx hb dJ3_removeLast_6 (by decide) ?_
  refine lv_aload_n hx hb dJ3_removeLast_17 rfl (lv_at hl 0 rfl) ?_
  exact r_aret X hL rfl (Or.inl ⟨_, rfl⟩) (Or.inr ⟨_, rfl⟩) dJ3_removeLast_18 (by omega) (by omega) ⟨rfl, hd, hC1⟩
theorem vb_J3_removeLast : VB yJ3_removeLast cJ3_removeLast 2 (some (.object "java/lang/Object")) 0 := ⟨q313, q314, q106, q315, ⟨by decide, by decide, by decide +kernel⟩⟩

set_option maxRecDepth 100000 in
set_option maxHeartbeats 4000000 in
theorem ct_J3_removeFirst (l : Launch) (g : GT) (P : Nat → Prop) (x : Nat → Nat) (k a : Nat) (h0 : 0 < k) : Ct l g yJ3_removeFirst cJ3_removeFirst 2 (some (.object "java/lang/Object")) 3 0 0 [.ref a] (DqR g P x k a) (fun r H H1 => r = some (.ref (x 0)) ∧ DqR g P (fun j => x (j + 1)) (k - 1) a H1 ∧ Chg P H H1) := by
  refine Ct.of (by decide) (Nat.le_of_ble_eq_true rfl) ?_
  intro p e s m args below meth c X hP ls hl
  have hx := X.1
  have hb := X.2.1
  have hKV := X.2.2.2.2.2.2.2.1.1
  have hL : ∀ q ∈ ([] : List Loc), gLo g ≤ q.base := fun _ h => by cases h
  have hP0 := hP
  obtain ⟨ar, h, f, p1, l1, p2, l2, hne, hh, hk, ob, aq, hx1⟩ := hP
  have hl : lv_has ls 2 [(0, .ref a)] := hl
  refine lv_aload_n hx hb dJ3_removeFirst_0 rfl (lv_at hl 0 rfl) ?_
  refine Ct.callV (ct_J3_pollFirst l g P x k a h0) X hL hl vb_J3_pollFirst q1545 (ob.recv hKV rfl) rfl rfl (Nat.le_of_ble_eq_true rfl) dJ3_removeFirst_1 ⟨Nat.le_of_ble_eq_true rfl, Nat.le_of_ble_eq_true rfl⟩ (by omega) (by omega) hP0 (fun r H locs hL hp => ?_)
  obtain ⟨rfl, hd, hC1⟩ := hp
  refine lv_astore_n (lv' := [(1, .ref _), (0, .ref _)]) hx hb dJ3_removeFirst_4 rfl hl (by decide) rfl (fun ls hl => ?_)
  refine lv_aload_n hx hb dJ3_removeFirst_5 rfl (lv_at hl 0 rfl) ?_
  refine lv_ifnonnull (tgt := 17) hx hb dJ3_removeFirst_6 (by decide) ?_
  refine lv_aload_n hx hb dJ3_removeFirst_17 rfl (lv_at hl 0 rfl) ?_
  exact r_aret X hL rfl (Or.inl ⟨_, rfl⟩) (Or.inr ⟨_, rfl⟩) dJ3_removeFirst_18 (by omega) (by omega) ⟨rfl, hd, hC1⟩
theorem vb_J3_removeFirst : VB yJ3_removeFirst cJ3_removeFirst 2 (some (.object "java/lang/Object")) 0 := ⟨q1542, q1543, q106, q1544, ⟨by decide, by decide, by decide +kernel⟩⟩

set_option maxRecDepth 100000 in
set_option maxHeartbeats 4000000 in
theorem ct_J3_pop (l : Launch) (g : GT) (P : Nat → Prop) (x : Nat → Nat) (k a : Nat) (h0 : 0 < k) : Ct l g yJ3_pop cJ3_pop 1 (some (.object "java/lang/Object")) 4 0 0 [.ref a] (DqR g P x k a) (fun r H H1 => r = some (.ref (x 0)) ∧ DqR g P (fun j => x (j + 1)) (k - 1) a H1 ∧ Chg P H H1) := by
  refine Ct.of (by decide) (Nat.le_of_ble_eq_true rfl) ?_
  intro p e s m args below meth c X hP ls hl
  have hx := X.1
  have hb := X.2.1
  have hKV := X.2.2.2.2.2.2.2.1.1
  have hL : ∀ q ∈ ([] : List Loc), gLo g ≤ q.base := fun _ h => by cases h
  have hP0 := hP
  obtain ⟨ar, h, f, p1, l1, p2, l2, hne, hh, hk, ob, aq, hx1⟩ := hP
  have hl : lv_has ls 1 [(0, .ref a)] := hl
  refine lv_aload_n hx hb dJ3_pop_0 rfl (lv_at hl 0 rfl) ?_
  refine Ct.callV (ct_J3_removeFirst l g P x k a h0) X hL hl vb_J3_removeFirst q1541 (ob.recv hKV rfl) rfl rfl (Nat.le_of_ble_eq_true rfl) dJ3_pop_1 ⟨Nat.le_of_ble_eq_true rfl, Nat.le_of_ble_eq_true rfl⟩ (by omega) (by omega) hP0 (fun r H locs hL hp => ?_)
  obtain ⟨rfl, hd, hC1⟩ := hp
  exact r_aret X hL rfl (Or.inl ⟨_, rfl⟩) (Or.inr ⟨_, rfl⟩) dJ3_pop_4 (by omega) (by omega) ⟨rfl, hd, hC1⟩
theorem vb_J3_pop : VB yJ3_pop cJ3_pop 1 (some (.object "java/lang/Object")) 0 := ⟨q1538, q1539, q106, q1540, ⟨by decide, by decide, by decide +kernel⟩⟩

set_option maxRecDepth 100000 in
set_option maxHeartbeats 4000000 in
theorem ct_J3_init (l : Launch) (g : GT) (a : Nat) (l1 : gLo g ≤ a) : Ct l g yJ3_init cJ3_init 2 none 3 1 7 [.ref a, .int (nI 6)] (Ob g a 8 [.null, .int (nI 0), .int (nI 0)]) (fun r H H1 => r = none ∧ (∀ x, DqR g (fun q => q = a ∨ H.size ≤ q) x 0 a H1) ∧ Chg (fun q => q = a ∨ H.size ≤ q) H H1) := by
  refine Ct.of (by decide) (Nat.le_of_ble_eq_true rfl) ?_
  intro p e s m args below meth c X hP ls hl
  have hx := X.1
  have hb := X.2.1
  have hKV := X.2.2.2.2.2.2.2.1.1
  have hL : ∀ q ∈ ([] : List Loc), gLo g ≤ q.base := fun _ h => by cases h
  have ob := hP
  have hal := ob.lt
  have hl : lv_has ls 2 [(0, .ref a), (1, .int (nI 6))] := hl
  have hC : Chg (fun q => q = a ∨ s.heap.size ≤ q) s.heap s.heap := Chg.rfl'
  refine lv_aload_n hx hb dJ3_init_0 rfl (lv_at hl 0 rfl) ?_
  refine Ct.callI (ct_J0_init l g a ) X hL hl ib_J0_init q232 rfl rfl (Nat.le_of_ble_eq_true rfl) dJ3_init_1 ⟨Nat.le_of_ble_eq_true rfl, Nat.le_of_ble_eq_true rfl⟩ (by omega) (by omega) trivial (fun r H locs hL hp => ?_)
  obtain ⟨rfl, rfl⟩ := hp
  refine lv_aload_n hx hb dJ3_init_4 rfl (lv_at hl 0 rfl) ?_
  refine lv_iload_n hx hb dJ3_init_5 rfl (lv_at hl 1 rfl) ?_
  refine lv_iconst (v := nI 1) hx hb dJ3_init_6 (by decide) ?_
  refine n_icmp_ge (tgt := 14) X dJ3_init_7 (by decide) (by omega) (by omega) (fun c_7 => ?_) (fun c_7 => ?_)
  ·
    refine lv_iload_n hx hb dJ3_init_14 rfl (lv_at hl 1 rfl) ?_
    refine lv_ldc hx hb X.2.2.2.1 (X.2.2.2.2.1 _ q233) dJ3_init_15 ?_
    refine lv_icmp_ne (tgt := 25) hx hb dJ3_init_17 (by decide) (fun c_17 => ?_) (fun c_17 => ?_)
    ·
      refine lv_iload_n hx hb dJ3_init_25 rfl (lv_at hl 1 rfl) ?_
      refine lv_iconst (v := nI 1) hx hb dJ3_init_26 (by decide) ?_
      refine n_iadd X dJ3_init_27 ?_
      obtain ⟨b1, hb1⟩ : ∃ b, s.heap.size = b := ⟨_, rfl⟩
      have sz_b1 : s.heap.size ≤ b1 := by rw [← hb1]; exact Nat.le_refl _
      have lo_b1 : gLo g ≤ b1 := Nat.le_trans X.2.2.2.2.2.2.2.1.2.1 sz_b1
      have p_b1 : (fun q => q = a ∨ s.heap.size ≤ q) b1 := (fun q hq => Or.inr hq : ∀ q, s.heap.size ≤ q → (fun q => q = a ∨ s.heap.size ≤ q) q) b1 sz_b1
      have ne_a_b1 : a ≠ b1 := Nat.ne_of_lt (by rw [← hb1]; exact ob.lt)
      refine r_newq (k := 4) (N' := (6 + 1)) X q234 q235 rfl (nI_pos (by omega)) (nI_clamp (by omega)) (by omega) (by show _ + 1 ≤ 1; omega) (by show _ + (6 + 1) ≤ 7; omega) dJ3_init_28 (fun H ha_b1 hE_b1 hz_b1 => ?_)
      rw [hb1] at ha_b1 hz_b1 ⊢
      have ob := ob.ext hE_b1
      have hC := hC.trans hE_b1.chg
      refine r_put (C := RJ3) (T := TJ3) (N := 3) (ci := 8) X in_J3 tyJ3 tyJ3_ok nmJ3 rfl 0 (Nat.le_of_ble_eq_true rfl) q236 (fun _ h => h) rfl hL ob l1 rfl rfl (Nat.le_of_ble_eq_true rfl) dJ3_init_31 (fun H locs hL h1 h2 => ?_)
      have ob : Ob g a 8 [.ref b1, .int (nI 0), .int (nI 0)] H := h1
      have ha_b1 := ha_b1.on h2 (Ne.symm ne_a_b1)
      have hC := hC.trans (h2.chg (Or.inl rfl))
      exact r_vret X hL dJ3_init_34 (by omega) (by omega) ⟨rfl, fun x => ⟨b1, 0, _, Or.inl rfl, l1, Or.inr sz_b1, lo_b1, ne_a_b1, by omega, by omega, ob, ha_b1, fun j hj => absurd hj (Nat.not_lt_zero _)⟩, hC⟩
    ·
      exact absurd c_17 (by decide)
  ·
    exact absurd c_7 (by omega)
theorem ib_J3_init : IB yJ3_init cJ3_init 2 1 := ⟨q230, q106, q231, rfl, ⟨by decide, by decide, by decide +kernel⟩⟩
