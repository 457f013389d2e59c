/-! the list: copies of arrays -/

theorem el_ext {g : GT} {f : Nat → Option Nat} {n : Nat} {H H1 : Heap} (h : ∀ j, j < n → ∀ y, f j = some y → ∃ (ci : Nat) (fs : List Value) (r : vw_C), Ob g y ci fs H ∧ vwCl[ci]? = some r ∧ Cond.castable r.1 "java/lang/Object" ∈ lw_tbl) (e : Ext H H1) : ∀ j, j < n → ∀ y, f j = some y → ∃ (ci : Nat) (fs : List Value) (r : vw_C), Ob g y ci fs H1 ∧ vwCl[ci]? = some r ∧ Cond.castable r.1 "java/lang/Object" ∈ lw_tbl := fun j hj y hy => by
  obtain ⟨ci, fs, r, a, b, c⟩ := h j hj y hy
  exact ⟨ci, fs, r, a.ext e, b, c⟩

set_option maxRecDepth 100000 in
set_option maxHeartbeats 4000000 in
theorem ct_J17_copyOf_2 (l : Launch) (g : GT) (a n0 N1 : Nat) (f : Nat → Option Nat) (hn : n0 ≤ N1) (hN : N1 ≤ 2000) : Ct l g yJ17_copyOf_2 cJ17_copyOf_2 4 (some (.array (.object "java/lang/Object"))) 2 1 N1 [.ref a, .int (nI N1), .ref (gMi g)] (fun H => Aq g a 4 n0 f H ∧ ∀ j, j < n0 → ∀ y, f j = some y → ∃ (ci : Nat) (fs : List Value) (r : vw_C), Ob g y ci fs H ∧ vwCl[ci]? = some r ∧ Cond.castable r.1 "java/lang/Object" ∈ lw_tbl) (fun r H H1 => r = some (.ref H.size) ∧ Aq g H.size 4 N1 (va_cpy f (fun _ => none) 0 0 n0) H1 ∧ Ext H H1 ∧ H1.size = H.size + 1) := by
  refine Ct.of (by decide) (Nat.le_of_ble_eq_true rfl) ?_
  intro p e s m args below meth c X hP ls hl
  have hx := X.1
  have hb := X.2.1
  have hKV := X.2.2.2.2.2.2.2.1.1
  have hL : ∀ q ∈ ([] : List Loc), gLo g ≤ q.base := fun _ h => by cases h
  obtain ⟨aq, hel⟩ := hP
  have hl : lv_has ls 4 [(0, .ref a), (1, .int (nI N1)), (2, .ref (gMi g))] := hl
  have aq0 := aq
  have hlo2 : gLo g ≤ s.heap.size := X.2.2.2.2.2.2.2.1.2.1
  refine lv_aload_n hx hb dJ17_copyOf_2_0 rfl (lv_at hl 2 rfl) ?_
  refine va_ldcM (C := "[Ljava/lang/Object;") hx hb X.2.2.2.1 (X.2.2.2.2.1 _ q412) hKV.2.2.2.2.2.2.2.2.2.1 dJ17_copyOf_2_1 ?_
  refine lv_acmp_ne (rx := some (gMi g)) (ry := some (gMi g)) (tgt := 13) hx hb dJ17_copyOf_2_3 (by decide) (fun c_3 => ?_) (fun c_3 => ?_)
  ·
    exact absurd rfl c_3
  ·
    refine lv_iload_n hx hb dJ17_copyOf_2_6 rfl (lv_at hl 1 rfl) ?_
    refine r_newq (k := 4) (N' := N1) X q413 q235 rfl (nI_pos (by omega)) (nI_clamp (by omega)) (by omega) (by show 0 + 1 ≤ 1; omega) (by show 0 + N1 ≤ N1; omega) dJ17_copyOf_2_7 (fun H ha2 hE hz => ?_)
    have aq := aq.ext hE
    have hel := el_ext hel hE
    refine lv_goto (tgt := 24) hx hb dJ17_copyOf_2_10 (by decide) ?_
    refine lv_astore_n (lv' := [(3, .ref _), (0, .ref _), (1, .int _), (2, .ref _)]) hx hb dJ17_copyOf_2_24 rfl hl (by decide) rfl (fun ls hl => ?_)
    refine lv_aload_n hx hb dJ17_copyOf_2_25 rfl (lv_at hl 1 rfl) ?_
    refine lv_iconst (v := nI 0) hx hb dJ17_copyOf_2_26 (by decide) ?_
    refine lv_aload_n hx hb dJ17_copyOf_2_27 rfl (lv_at hl 0 rfl) ?_
    refine lv_iconst (v := nI 0) hx hb dJ17_copyOf_2_28 (by decide) ?_
    refine lv_aload_n hx hb dJ17_copyOf_2_29 rfl (lv_at hl 1 rfl) ?_
    refine r_lenq (k := 4) (v := nI n0) X aq rfl rfl dJ17_copyOf_2_30 ?_
    refine lv_iload_n hx hb dJ17_copyOf_2_31 rfl (lv_at hl 2 rfl) ?_
    refine va_mmin hx hb (X.2.2.1.trans hl.1.symm) X.2.2.2.1 (X.2.2.2.2.1 _ q414) (X.2.2.2.2.1 _ q415) (X.2.2.2.2.1 _ q120) (X.2.2.2.2.1 _ q416) (Nat.le_of_ble_eq_true rfl) (Nat.le_of_ble_eq_true rfl) (by show 0 + 1 ≤ 1; omega) (by show 0 + N1 ≤ N1; omega) dJ17_copyOf_2_32 ?_
    refine W.stk (w := mnI (nI n0) (nI N1)) rfl ?_
    refine W.stk (w := (nI n0)) ((mnI_n (by omega) (by omega)).trans (by rw [Nat.min_eq_left hn])) ?_
    refine r_copyq (k := 4) X hl hL aq ha2 rfl hlo2 q417 q419 q418 q122 (nI_pos (by omega)) (nI_pos (by omega)) (nI_pos (by omega)) (by rw [nI_clamp (n := 0) (by omega), nI_clamp (n := n0) (by omega)]; omega) (by rw [nI_clamp (n := 0) (by omega), nI_clamp (n := n0) (by omega)]; omega) (fun z hz y hy => hel _ (by rw [nI_clamp (n := n0) (by omega)] at hz; rw [nI_clamp (n := 0) (by omega)]; omega) y hy) (Nat.le_of_ble_eq_true rfl) (Nat.le_of_ble_eq_true rfl) dJ17_copyOf_2_35 (fun H locs hL h1 h2 => ?_)
    rw [nI_clamp (n := 0) (by omega), nI_clamp (n := n0) (by omega)] at h1
    have ha2 : Aq g s.heap.size 4 N1 (va_cpy f (fun _ => none) 0 0 n0) H := h1
    have aq := aq.on h2 (Nat.ne_of_lt aq0.lt)
    have hE2 := hE.on h2 (Nat.le_refl _)
    have hz2 := h2.1.trans hz
    refine lv_aload_n hx hb dJ17_copyOf_2_38 rfl (lv_at hl 0 rfl) ?_
    exact r_aret X hL rfl (Or.inr ⟨_, rfl⟩) (Or.inr ⟨_, rfl⟩) dJ17_copyOf_2_39 (by omega) (by omega) ⟨rfl, ha2, hE2, hz2⟩
theorem sb_J17_copyOf_2 : SB yJ17_copyOf_2 cJ17_copyOf_2 4 (some (.array (.object "java/lang/Object"))) 3 := ⟨q410, q121, q411, ⟨by decide, by decide, by decide +kernel⟩⟩
