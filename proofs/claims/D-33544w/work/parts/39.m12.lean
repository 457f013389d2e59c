/-! the model's walks, twelfth part: following -/
theorem Ar.low {g : GT} {a k n : Nat} {f f1 : Nat → Int32} {H : Heap} (h : Ar g a k n f H) (e : ∀ j, j < n → f j = f1 j) : Ar g a k n f1 H := by
  have : vp_cell (gA g k) (n, .inl f) = vp_cell (gA g k) (n, .inl f1) := by
    rw [vp_cell_i, vp_cell_i]
    unfold arrV
    congr 2
    funext j
    exact congrArg Value.int (e j.val j.isLt)
  unfold Ar at h ⊢
  rw [← this]; exact h
theorem MW.low {g : GT} {o k : Nat} {S : MS} {H : Heap} {f1 : Nat → Int32} (h : MW g o S H) (hk : k < 9) (e : ∀ j, j < mlen k → S.1 k j = f1 j) : MW g o (uA S k f1) H := by
  refine ⟨h.1, h.2.1, fun j hj => ?_⟩
  by_cases q : j = k
  · subst q
    have := (h.2.2 j hj).low e
    simpa [uA, va_up] using this
  · simpa [uA, va_up, q] using h.2.2 j hj
theorem see_1 {f : Nat → Int32} {n i a : Nat} : (pS f n i a a).1 = true ↔ i < n ∧ f i = nI a := by
  show (decide (i < n) && (decide (nI a ≤ f i) && decide (f i ≤ nI a))) = true ↔ _
  rw [Bool.and_eq_true, Bool.and_eq_true, decide_eq_true_eq, decide_eq_true_eq, decide_eq_true_eq]
  exact ⟨fun h => ⟨h.1, Int32.le_antisymm h.2.2 h.2.1⟩, fun h => ⟨h.1, by rw [h.2]; exact Int32.le_refl _, by rw [h.2]; exact Int32.le_refl _⟩⟩
/-- the digits from k on -/
def dig (f : Nat → Int32) (n k : Nat) : Bool := seeB f n k 48 57
theorem run_eq {f : Nat → Int32} {n k u v : Nat} (h1 : ∀ d, d < u → dig f n (k + d) = true) (h2 : dig f n (k + u) = false) (h3 : ∀ d, d < v → dig f n (k + d) = true) (h4 : dig f n (k + v) = false) : u = v := by
  rcases Nat.lt_trichotomy u v with q | q | q
  · exact absurd (h2.symm.trans (h3 u q)) (by decide)
  · exact q
  · exact absurd (h4.symm.trans (h1 v q)) (by decide)
theorem inB_w {x : Int32} {a b c d : Nat} (h : inB x (nI a) (nI b) = true) (h1 : nI c ≤ nI a) (h2 : nI b ≤ nI d) : inB x (nI c) (nI d) = true := by
  unfold inB at h ⊢
  rw [Bool.and_eq_true, decide_eq_true_eq, decide_eq_true_eq] at h ⊢
  exact ⟨Int32.le_trans h1 h.1, Int32.le_trans h.2 h2⟩
theorem pS_dig {f : Nat → Int32} {n i a b : Nat} (h : (pS f n i a b).1 = true) (h1 : nI 48 ≤ nI a) (h2 : nI b ≤ nI 57) : dig f n i = true := by
  have h : seeB f n i a b = true := h
  unfold seeB at h
  rw [Bool.and_eq_true] at h
  unfold dig seeB
  rw [h.1, inB_w h.2 h1 h2]; rfl
theorem pnS_dig {f : Nat → Int32} {n k t : Nat} (h : (pnS f n k t).1 = true) : ∀ d, d < (pnS f n k t).2 - k → dig f n (k + d) = true := by
  unfold pnS ifP thB at h ⊢
  by_cases q : (pS f n k 48 48).1 = true
  · rw [if_pos q, (pS_t q).1]
    intro d hd
    have : d = 0 := by have : d < k + 1 - k := hd; omega
    subst this
    exact pS_dig q (by decide) (by decide)
  · rw [if_neg q] at h ⊢
    have e := pS_f (Bool.eq_false_iff.mpr q)
    rw [e] at h ⊢
    dsimp only at h ⊢
    by_cases q2 : (pS f n k 49 57).1 = true
    · rw [if_pos q2, (pS_t q2).1]
      intro d hd
      dsimp only at hd
      rcases Nat.eq_zero_or_pos d with x | x
      · subst x; exact pS_dig q2 (by decide) (by decide)
      · split at hd
        · rename_i z
          rw [Bool.and_eq_true] at z
          have : d = 1 := by omega
          subst this; exact z.1
        · omega
    · rw [if_neg q2] at h; cases h
theorem dgI_dig {f : Nat → Int32} {n k : Nat} (h : inB (dgI f n k) (nI 0) (nI 9) = true) : dig f n k = true := by
  have hk := dg_lt h
  rw [show dgI f n k = f k - nI 48 from if_pos hk] at h
  obtain ⟨h1, -, h2⟩ := inB_nat (by omega) (by omega) h
  have e : f k = nI ((f k - nI 48).toNatClampNeg + 48) := by
    rw [← nI_add, ← h1]; simp
  unfold dig seeB
  rw [decide_eq_true hk, e]
  unfold inB
  rw [decide_eq_true ((nI_leI (by omega) (by omega)).mpr (by omega)), decide_eq_true ((nI_leI (by omega) (by omega)).mpr (by omega))]; rfl
theorem pfS_dig {f : Nat → Int32} {n k : Nat} {t : Int32} (h : (pfS f n k t).1 = true) : ∀ d, d < (pfS f n k t).2 - k → dig f n (k + d) = true := by
  unfold pfS at h ⊢
  split
  · rename_i q
    rw [Bool.and_eq_true] at q
    intro d hd
    dsimp only at hd
    rcases Nat.eq_zero_or_pos d with x | x
    · subst x; exact dgI_dig q.1
    · split at hd
      · rename_i z
        have : d = 1 := by omega
        subst this
        unfold goB at z
        rw [Bool.and_eq_true, Bool.and_eq_true] at z
        exact dgI_dig z.2.1
      · omega
  · intro d hd; dsimp only at hd; omega
theorem thB_inv {x : Bool × Nat} {k : Nat → Bool × Nat} (h : (thB x k).1 = true) : x.1 = true ∧ (k x.2).1 = true ∧ (thB x k).2 = (k x.2).2 := by
  unfold thB at h ⊢
  by_cases q : x.1 = true
  · rw [if_pos q] at h ⊢; exact ⟨q, h, rfl⟩
  · rw [if_neg q] at h; cases h
theorem ifP_inv {x : Bool × Nat} {k1 k2 : Nat → Bool × Nat} (h : (ifP x k1 k2).1 = true) : (x.1 = true ∧ (k1 x.2).1 = true ∧ (ifP x k1 k2).2 = (k1 x.2).2) ∨ (x.1 = false ∧ (k2 x.2).1 = true ∧ (ifP x k1 k2).2 = (k2 x.2).2) := by
  unfold ifP at h ⊢
  by_cases q : x.1 = true
  · rw [if_pos q] at h ⊢; exact Or.inl ⟨q, h, rfl⟩
  · rw [if_neg q] at h ⊢; exact Or.inr ⟨Bool.eq_false_iff.mpr q, h, rfl⟩
/-- what a part that is whole looks like -/
theorem pt_inv {f : Nat → Int32} {n i : Nat} (h : (ptS f n i).1 = true) : i < n ∧ ((f i = nI 97 ∧ (paS f n (i + 1)).1 = true ∧ (ptS f n i).2 = (paS f n (i + 1)).2) ∨ (f i = nI 114 ∧ (pnS f n (i + 1) 39).1 = true ∧ (ptS f n i).2 = (pnS f n (i + 1) 39).2) ∨ (f i = nI 119 ∧ (pwS f n (i + 1)).1 = true ∧ (ptS f n i).2 = (pwS f n (i + 1)).2) ∨ (f i = nI 98 ∧ (pbS f n (i + 1)).1 = true ∧ (ptS f n i).2 = (pbS f n (i + 1)).2)) := by
  unfold ptS at h ⊢
  rcases ifP_inv h with ⟨a, b, e⟩ | ⟨a, h, e0⟩
  · rw [(pS_t a).1] at b e
    exact ⟨(pS_t a).2, Or.inl ⟨(see_1.mp a).2, b, e⟩⟩
  · rw [e0]
    rw [pS_f a] at h ⊢
    rcases ifP_inv h with ⟨a, b, e⟩ | ⟨a, h, e0⟩
    · rw [(pS_t a).1] at b e
      exact ⟨(pS_t a).2, Or.inr (Or.inl ⟨(see_1.mp a).2, b, e⟩)⟩
    · rw [e0]
      rw [pS_f a] at h ⊢
      rcases ifP_inv h with ⟨a, b, e⟩ | ⟨a, h, e0⟩
      · rw [(pS_t a).1] at b e
        exact ⟨(pS_t a).2, Or.inr (Or.inr (Or.inl ⟨(see_1.mp a).2, b, e⟩))⟩
      · rw [e0]
        rw [pS_f a] at h ⊢
        obtain ⟨a, b, e⟩ := thB_inv h
        rw [(pS_t a).1] at b e
        exact ⟨(pS_t a).2, Or.inr (Or.inr (Or.inr ⟨(see_1.mp a).2, b, e⟩))⟩
theorem dig_f {f : Nat → Int32} {n k a : Nat} (h : f k = nI a) (ha : inB (nI a) (nI 48) (nI 57) = false) : dig f n k = false := by
  unfold dig seeB; rw [h, ha, Bool.and_false]
theorem dig_n {f : Nat → Int32} {n : Nat} : dig f n n = false := by
  unfold dig seeB; rw [decide_eq_false (by omega)]; rfl
/-- the end of a part: no digit there -/
def endB (f : Nat → Int32) (n e : Nat) : Prop := e = n ∨ (e < n ∧ f e = nI 59)
theorem endB.dig {f : Nat → Int32} {n e : Nat} (h : endB f n e) : dig f n e = false := by
  rcases h with rfl | ⟨-, h⟩
  · exact dig_n
  · exact dig_f h (by decide)

set_option maxRecDepth 100000 in
set_option maxHeartbeats 4000000 in
theorem ct_X5_number (l : Launch) (g : GT) (o n i : Nat) (S : MS) (hln : S.2.1 13 = nI n) (hat : S.2.1 14 = nI i) (hn6 : n ≤ 60) (hi : i ≤ n) : Ct l g yX5_number cX5_number 2 (some .int) 3 0 0 [.ref o] (MW g o S) (fun r H H1 => ∃ (j u : Nat), (j = i + u) ∧ (j ≤ n) ∧ (∀ d, d < u → dig (S.1 4) n (i + d) = true) ∧ (dig (S.1 4) n j = false) ∧ r = some (.int (numI (S.1 4) i u)) ∧ MW g o (uS S 14 (nI j)) H1 ∧ Off o H H1) := by
  refine Ct.of (by decide) (Nat.le_of_ble_eq_true rfl) ?_
  intro p e s m args below meth c X hP ls hl
  have hx := X.1
  have hb := X.2.1
  have hKV := X.2.2.2.2.2.2.2.1.1
  have hL : ∀ q ∈ ([] : List Loc), gLo g ≤ q.base := fun _ h => by cases h
  have hl : lv_has ls 2 [(0, .ref o)] := hl
  have hW : MW g o S s.heap := hP
  have hO : Off o s.heap s.heap := Off.rfl'
  refine lv_iconst (v := nI 0) hx hb dX5_number_0 (by decide) ?_
  refine lv_istore_n (lv' := [(1, .int _), (0, .ref _)]) hx hb dX5_number_1 rfl hl (by decide) rfl (fun ls hl => ?_)
  have L2 : ∀ (fuel : Nat) (v : Int32) (u : Nat), n - (i + u) < fuel → (v = numI (S.1 4) i u) → (i + u ≤ n) → (∀ d, d < u → dig (S.1 4) n (i + d) = true) → ∀ (H : Heap), MW g o (uS S 14 (nI (i + u))) H → Off o s.heap H → ∀ (locs : List Loc), (∀ q ∈ locs, gLo g ≤ q.base) → ∀ (ls : Array Slot), lv_has ls 2 [(0, .ref o), (1, .int v)] → W p l e (rmL 3 0 0) s m args below meth c H locs 0 0 (MQ below (Qcg (fun r H H1 => ∃ (j u : Nat), (j = i + u) ∧ (j ≤ n) ∧ (∀ d, d < u → dig (S.1 4) n (i + d) = true) ∧ (dig (S.1 4) n j = false) ∧ r = some (.int (numI (S.1 4) i u)) ∧ MW g o (uS S 14 (nI j)) H1 ∧ Off o H H1)) args s 0 0 (fre g)) (F0 m 2 ls []) := by
    intro fuel
    induction fuel with
    | zero => intro v u hfu; exact absurd hfu (Nat.not_lt_zero _)
    | succ fuel ih2 =>
      intro v u hfu hv hu hd H hW hO locs hL ls hl
      refine lv_aload_n hx hb dX5_number_2 rfl (lv_at hl 0 rfl) ?_
      refine lv_bipush (v := nI 48) hx hb dX5_number_3 (by decide) ?_
      refine lv_bipush (v := nI 57) hx hb dX5_number_5 (by decide) ?_
      refine Cp.callV (v := .int (bI (seeB (S.1 4) n (i + u) 48 57))) (ct_X5_sees l g o n (i + u) 48 57 (uS S 14 (nI (i + u))) hln rfl (by omega) (by omega)) X hL hl vb_X5_sees q1995 (hW.2.1.recv hKV rfl) rfl rfl (Nat.le_of_ble_eq_true rfl) dX5_number_7 ⟨Nat.le_of_ble_eq_true rfl, Nat.le_of_ble_eq_true rfl⟩ (by omega) (by omega) hW (fun locs hL => ?_)
      refine b_ifeq (tgt := 44) X dX5_number_10 (by decide) (fun c_10 => ?_) (fun c_10 => ?_)
      ·
        refine lv_iload_n hx hb dX5_number_44 rfl (lv_at hl 1 rfl) ?_
        exact r_iret X hL rfl rfl dX5_number_45 (by omega) (by omega) ⟨i + u, u, rfl, hu, hd, c_10, (by rw [hv]), (MW.cast hW ⟨rfl, rfl, rfl, rfl, rfl, rfl, rfl, rfl, rfl, rfl, rfl, rfl, rfl, rfl, rfl, rfl, rfl⟩), hO⟩
      ·
        have hsl := see_lt c_10
        refine lv_bipush (v := nI 10) hx hb dX5_number_13 (by decide) ?_
        refine lv_iload_n hx hb dX5_number_15 rfl (lv_at hl 1 rfl) ?_
        refine lv_imul hx hb dX5_number_16 ?_
        refine lv_aload_n hx hb dX5_number_17 rfl (lv_at hl 0 rfl) ?_
        refine mg_22 X rfl hW dX5_number_18 ?_
        refine lv_aload_n hx hb dX5_number_21 rfl (lv_at hl 0 rfl) ?_
        refine mg_121 X rfl hW dX5_number_22 (W.stk (w := (nI (i + u))) rfl ?_)
        refine m_ld (v := ((S.1 4) (i + u))) X hW 4 (by decide) rfl (i + u) rfl (by show i + u < 60; omega) rfl dX5_number_25 ?_
        refine lv_iadd hx hb dX5_number_26 ?_
        refine lv_bipush (v := nI 48) hx hb dX5_number_27 (by decide) ?_
        refine lv_isub hx hb dX5_number_29 ?_
        refine lv_istore_n (lv' := [(1, .int _), (0, .ref _)]) hx hb dX5_number_30 rfl hl (by decide) rfl (fun ls hl => ?_)
        refine lv_aload_n hx hb dX5_number_31 rfl (lv_at hl 1 rfl) ?_
        refine lv_dup hx hb dX5_number_32 rfl ?_
        refine mg_121 X rfl hW dX5_number_33 (W.stk (w := (nI (i + u))) rfl ?_)
        refine lv_iconst (v := nI 1) hx hb dX5_number_36 (by decide) ?_
        refine n_iadd X dX5_number_37 ?_
        refine mp_121 X rfl hL hW dX5_number_38 (fun H locs hL hW hO1 => ?_)
        have hO := hO.trans hO1
        have hW := MW.cast (S1 := uS S 14 (nI ((i + u) + 1))) hW ⟨rfl, rfl, rfl, rfl, rfl, rfl, rfl, rfl, rfl, rfl, rfl, rfl, rfl, rfl, rfl, rfl, rfl⟩
        refine lv_goto (tgt := 2) hx hb dX5_number_41 (by decide) ?_
        exact ih2 (nI 10 * v + S.1 4 (i + u) - nI 48) (u + 1) (by omega) (by rw [hv]; rfl) (by omega) (fun d h => (Nat.lt_or_ge d u).elim (fun q => hd d q) (fun q => (show d = u by omega) ▸ c_10)) _ hW hO _ hL ls (lv_sub hl [1, 0] rfl)
  exact L2 (n + 1) (nI 0) 0 (by omega) rfl (by omega) (fun d h => absurd h (Nat.not_lt_zero _)) _ (MW.cast hW ⟨rfl, rfl, rfl, rfl, rfl, rfl, rfl, rfl, rfl, rfl, rfl, rfl, rfl, rfl, hat, rfl, rfl⟩) hO _ hL ls (lv_sub hl [1, 0] rfl)
theorem vb_X5_number : VB yX5_number cX5_number 2 (some .int) 0 := ⟨q2025, qs76, q111, q2026, ⟨by decide, by decide, by decide +kernel⟩⟩

set_option maxRecDepth 100000 in
set_option maxHeartbeats 4000000 in
theorem ct_X5_next (l : Launch) (g : GT) (o n i : Nat) (S : MS) (hln : S.2.1 13 = nI n) (hat : S.2.1 14 = nI i) (hn6 : n ≤ 60) (hi : i < n) : Ct l g yX5_next cX5_next 1 (some .int) 4 0 0 [.ref o] (MW g o S) (fun r H H1 => ∃ (j u : Nat), (j = i + 1 + u) ∧ (j ≤ n) ∧ (∀ d, d < u → dig (S.1 4) n (i + 1 + d) = true) ∧ (dig (S.1 4) n j = false) ∧ r = some (.int (numI (S.1 4) (i + 1) u)) ∧ MW g o (uS S 14 (nI j)) H1 ∧ Off o H H1) := by
  refine Ct.of (by decide) (Nat.le_of_ble_eq_true rfl) ?_
  intro p e s m args below meth c X hP ls hl
  have hx := X.1
  have hb := X.2.1
  have hKV := X.2.2.2.2.2.2.2.1.1
  have hL : ∀ q ∈ ([] : List Loc), gLo g ≤ q.base := fun _ h => by cases h
  have hl : lv_has ls 1 [(0, .ref o)] := hl
  have hW : MW g o S s.heap := hP
  have hO : Off o s.heap s.heap := Off.rfl'
  refine lv_aload_n hx hb dX5_next_0 rfl (lv_at hl 0 rfl) ?_
  refine lv_dup hx hb dX5_next_1 rfl ?_
  refine mg_121 X rfl hW dX5_next_2 (W.stk (w := (nI i)) hat ?_)
  refine lv_iconst (v := nI 1) hx hb dX5_next_5 (by decide) ?_
  refine n_iadd X dX5_next_6 ?_
  refine mp_121 X rfl hL hW dX5_next_7 (fun H locs hL hW hO1 => ?_)
  have hO := hO.trans hO1
  have hW := MW.cast (S1 := uS S 14 (nI (i + 1))) hW ⟨rfl, rfl, rfl, rfl, rfl, rfl, rfl, rfl, rfl, rfl, rfl, rfl, rfl, rfl, rfl, rfl, rfl⟩
  refine lv_aload_n hx hb dX5_next_10 rfl (lv_at hl 0 rfl) ?_
  refine Ct.callV (ct_X5_number l g o n (i + 1) (uS S 14 (nI (i + 1))) hln rfl (by omega) (by omega)) X hL hl vb_X5_number q2023 (hW.2.1.recv hKV rfl) rfl rfl (Nat.le_of_ble_eq_true rfl) dX5_next_11 ⟨Nat.le_of_ble_eq_true rfl, Nat.le_of_ble_eq_true rfl⟩ (by omega) (by omega) hW (fun r H1 locs hL hp => ?_)
  obtain ⟨j_11, u_11, hj_11, hjn_11, hd_11, he_11, rfl, hW, hO1⟩ := hp
  have hO := hO.trans hO1
  have hj_11 : j_11 = (i + 1) + u_11 := hj_11
  have hjn_11 : j_11 ≤ n := hjn_11
  have hd_11 : ∀ d, d < u_11 → dig (S.1 4) n ((i + 1) + d) = true := hd_11
  have he_11 : dig (S.1 4) n j_11 = false := he_11
  have hW := MW.cast (S1 := uS S 14 (nI j_11)) hW ⟨rfl, rfl, rfl, rfl, rfl, rfl, rfl, rfl, rfl, rfl, rfl, rfl, rfl, rfl, rfl, rfl, rfl⟩
  refine W.stk (w := (numI (S.1 4) (i + 1) u_11)) rfl ?_
  exact r_iret X hL rfl rfl dX5_next_14 (by omega) (by omega) ⟨j_11, u_11, hj_11, hjn_11, hd_11, he_11, (by simp []), (MW.cast hW ⟨rfl, rfl, rfl, rfl, rfl, rfl, rfl, rfl, rfl, rfl, rfl, rfl, rfl, rfl, rfl, rfl, rfl⟩), hO⟩
theorem vb_X5_next : VB yX5_next cX5_next 1 (some .int) 0 := ⟨q2021, qs75, q111, q2022, ⟨by decide, by decide, by decide +kernel⟩⟩

theorem nxt {f : Nat → Int32} {n k u j m : Nat} (hj : j = k + u) (hd : ∀ d, d < u → dig f n (k + d) = true) (he : dig f n j = false) (h3 : ∀ d, d < m - k → dig f n (k + d) = true) (h4 : dig f n m = false) (hk : k ≤ m) : u = m - k ∧ j = m := by
  have e : u = m - k := run_eq hd (by rw [← hj]; exact he) h3 (by rw [show k + (m - k) = m by omega]; exact h4)
  exact ⟨e, by omega⟩
def a1N (f : Nat → Int32) (n i : Nat) : Nat := (pnS f n (i + 1) 99).2
def nbI (f : Nat → Int32) (n k t : Nat) : Int32 := numI f k ((pnS f n k t).2 - k)
def sdN (f : Nat → Int32) (i : Nat) : Nat := (f (i + 1) - nI 48).toNatClampNeg
def wiI (f : Nat → Int32) (i : Nat) : Int32 := if f (i + 2) = nI 45 then nI 0 else if f (i + 2) = nI 43 then nI 1 else nI 2
/-- what a part does to a row of N offers -/
def folR (f : Nat → Int32) (n i : Nat) (r : Nat → Int32) (N : Nat) : Bool × (Nat → Int32) × Nat :=
  if f i = nI 97 then (if N < 40 then (true, addR r N (nbI f n (i + 1) 99) (nbI f n (a1N f n i + 1) 99) (nbI f n (a1N f n (a1N f n i) + 1) 99) (nbI f n (a1N f n (a1N f n (a1N f n i)) + 1) 99), N + 1) else (false, r, N))
  else if f i = nI 114 then (if noB N (nbI f n (i + 1) 39) then (false, r, N) else (true, delR r N (nbI f n (i + 1) 39).toNatClampNeg, N - 1))
  else if f i = nI 119 then (true, upd r (161 + sdN f i) (wiI f i), N)
  else (true, upd (upd r (165 + sdN f i) (nbI f n (i + 3) 99)) (169 + sdN f i) (numI f (a1N f n (i + 2) + 1) ((ptS f n i).2 - (a1N f n (i + 2) + 1))), N)
theorem pa_inv {f : Nat → Int32} {n i : Nat} (hi : i < n) (h : (paS f n (i + 1)).1 = true) : ((pnS f n (i + 1) 99).1 = true ∧ i + 1 ≤ a1N f n i ∧ a1N f n i < n ∧ f (a1N f n i) = nI 44) ∧ ((pnS f n (a1N f n i + 1) 99).1 = true ∧ a1N f n i + 1 ≤ a1N f n (a1N f n i) ∧ a1N f n (a1N f n i) < n ∧ f (a1N f n (a1N f n i)) = nI 44) ∧ ((pnS f n (a1N f n (a1N f n i) + 1) 99).1 = true ∧ a1N f n (a1N f n i) + 1 ≤ a1N f n (a1N f n (a1N f n i)) ∧ a1N f n (a1N f n (a1N f n i)) < n ∧ f (a1N f n (a1N f n (a1N f n i))) = nI 44) ∧ ((pnS f n (a1N f n (a1N f n (a1N f n i)) + 1) 99).1 = true ∧ a1N f n (a1N f n (a1N f n i)) + 1 ≤ (paS f n (i + 1)).2 ∧ (paS f n (i + 1)).2 ≤ n ∧ (paS f n (i + 1)).2 = (pnS f n (a1N f n (a1N f n (a1N f n i)) + 1) 99).2) := by
  obtain ⟨p1, h, e1⟩ := thB_inv h
  obtain ⟨c1, h, e2⟩ := thB_inv h
  have b1 := pnS_b (f := f) (t := 99) (show i + 1 ≤ n from hi)
  have x1 : f (a1N f n i) = nI 44 := (see_1.mp c1).2
  have l1 : a1N f n i < n := (pS_t c1).2
  rw [(pS_t c1).1] at h e2
  obtain ⟨p2, h, e3⟩ := thB_inv h
  obtain ⟨c2, h, e4⟩ := thB_inv h
  have b2 := pnS_b (f := f) (t := 99) (show a1N f n i + 1 ≤ n from l1)
  have x2 : f (a1N f n (a1N f n i)) = nI 44 := (see_1.mp c2).2
  have l2 : a1N f n (a1N f n i) < n := (pS_t c2).2
  rw [(pS_t c2).1] at h e4
  obtain ⟨p3, h, e5⟩ := thB_inv h
  obtain ⟨c3, h, e6⟩ := thB_inv h
  have b3 := pnS_b (f := f) (t := 99) (show a1N f n (a1N f n i) + 1 ≤ n from l2)
  have x3 : f (a1N f n (a1N f n (a1N f n i))) = nI 44 := (see_1.mp c3).2
  have l3 : a1N f n (a1N f n (a1N f n i)) < n := (pS_t c3).2
  rw [(pS_t c3).1] at h e6
  have b4 := pnS_b (f := f) (t := 99) (show a1N f n (a1N f n (a1N f n i)) + 1 ≤ n from l3)
  have e : (paS f n (i + 1)).2 = (pnS f n (a1N f n (a1N f n (a1N f n i)) + 1) 99).2 := e1.trans (e2.trans (e3.trans (e4.trans (e5.trans e6))))
  exact ⟨⟨p1, b1.1, l1, x1⟩, ⟨p2, b2.1, l2, x2⟩, ⟨p3, b3.1, l3, x3⟩, h, by rw [e]; exact b4.1, by rw [e]; exact b4.2, e⟩
theorem pw_inv {f : Nat → Int32} {n i : Nat} (h : (pwS f n (i + 1)).1 = true) : (pS f n (i + 1) 48 51).1 = true ∧ i + 2 < n ∧ (pwS f n (i + 1)).2 = i + 3 := by
  obtain ⟨c1, h, e1⟩ := thB_inv h
  rw [(pS_t c1).1] at h e1
  refine ⟨c1, ?_⟩
  rcases ifP_inv h with ⟨a, -, e⟩ | ⟨a, h, e2⟩
  · exact ⟨(pS_t a).2, e1.trans (e.trans (pS_t a).1)⟩
  · rw [pS_f a] at h e2
    rcases ifP_inv h with ⟨a, -, e⟩ | ⟨a, h, e3⟩
    · exact ⟨(pS_t a).2, e1.trans (e2.trans (e.trans (pS_t a).1))⟩
    · rw [pS_f a] at h e3
      exact ⟨(pS_t h).2, e1.trans (e2.trans (e3.trans (pS_t h).1))⟩
theorem pb_inv {f : Nat → Int32} {n i : Nat} (h : (pbS f n (i + 1)).1 = true) : (pS f n (i + 1) 48 51).1 = true ∧ i + 2 < n ∧ ((pnS f n (i + 3) 99).1 = true ∧ i + 3 ≤ a1N f n (i + 2) ∧ a1N f n (i + 2) < n ∧ f (a1N f n (i + 2)) = nI 45) ∧ ((pfS f n (a1N f n (i + 2) + 1) (nbI f n (i + 3) 99)).1 = true ∧ a1N f n (i + 2) + 1 ≤ (pbS f n (i + 1)).2 ∧ (pbS f n (i + 1)).2 ≤ n ∧ (pbS f n (i + 1)).2 = (pfS f n (a1N f n (i + 2) + 1) (nbI f n (i + 3) 99)).2) := by
  obtain ⟨c1, h, e1⟩ := thB_inv h
  rw [(pS_t c1).1] at h e1
  obtain ⟨c2, h, e2⟩ := thB_inv h
  rw [(pS_t c2).1] at h e2
  obtain ⟨p3, h, e3⟩ := thB_inv h
  obtain ⟨c4, h, e4⟩ := thB_inv h
  have l2 : i + 2 < n := (pS_t c2).2
  have b3 := pnS_b (f := f) (t := 99) (show i + 3 ≤ n from l2)
  have l4 : a1N f n (i + 2) < n := (pS_t c4).2
  rw [(pS_t c4).1] at h e4
  have b5 := pfS_b (f := f) (t := nbI f n (i + 3) 99) (show a1N f n (i + 2) + 1 ≤ n from l4)
  have e : (pbS f n (i + 1)).2 = (pfS f n (a1N f n (i + 2) + 1) (nbI f n (i + 3) 99)).2 := e1.trans (e2.trans (e3.trans e4))
  exact ⟨c1, l2, ⟨p3, b3.1, l4, (see_1.mp c4).2⟩, h, by rw [e]; exact b5.1, by rw [e]; exact b5.2, e⟩
theorem sd_ok {f : Nat → Int32} {n i : Nat} (h : (pS f n (i + 1) 48 51).1 = true) : f (i + 1) - nI 48 = nI (sdN f i) ∧ sdN f i < 4 := by
  have h : seeB f n (i + 1) 48 51 = true := h
  unfold seeB at h
  rw [Bool.and_eq_true] at h
  obtain ⟨h1, h2, h3⟩ := inB_nat (by omega) (by omega) h.2
  unfold sdN
  rw [h1, pk_sub h2, nI_clamp (by omega)]
  exact ⟨rfl, by omega⟩
theorem pt_a {f : Nat → Int32} {n i : Nat} (h : (ptS f n i).1 = true) (e : f i = nI 97) : (paS f n (i + 1)).1 = true ∧ (ptS f n i).2 = (paS f n (i + 1)).2 := by
  rcases (pt_inv h).2 with x | x | x | x
  · exact x.2
  all_goals exact absurd (e.symm.trans x.1) (by decide)
theorem pt_r {f : Nat → Int32} {n i : Nat} (h : (ptS f n i).1 = true) (e : f i = nI 114) : (pnS f n (i + 1) 39).1 = true ∧ (ptS f n i).2 = (pnS f n (i + 1) 39).2 := by
  rcases (pt_inv h).2 with x | x | x | x
  · exact absurd (e.symm.trans x.1) (by decide)
  · exact x.2
  all_goals exact absurd (e.symm.trans x.1) (by decide)
theorem pt_w {f : Nat → Int32} {n i : Nat} (h : (ptS f n i).1 = true) (e : f i = nI 119) : (pwS f n (i + 1)).1 = true ∧ (ptS f n i).2 = (pwS f n (i + 1)).2 := by
  rcases (pt_inv h).2 with x | x | x | x
  · exact absurd (e.symm.trans x.1) (by decide)
  · exact absurd (e.symm.trans x.1) (by decide)
  · exact x.2
  all_goals exact absurd (e.symm.trans x.1) (by decide)
theorem pt_b {f : Nat → Int32} {n i : Nat} (h : (ptS f n i).1 = true) (e1 : ¬ f i = nI 97) (e2 : ¬ f i = nI 114) (e3 : ¬ f i = nI 119) : (pbS f n (i + 1)).1 = true ∧ (ptS f n i).2 = (pbS f n (i + 1)).2 := by
  rcases (pt_inv h).2 with x | x | x | x
  · exact absurd x.1 e1
  · exact absurd x.1 e2
  · exact absurd x.1 e3
  · exact x.2
theorem pt_wb {f : Nat → Int32} {n i : Nat} (h : (ptS f n i).1 = true) (e1 : ¬ f i = nI 97) (e2 : ¬ f i = nI 114) : (pS f n (i + 1) 48 51).1 = true ∧ i + 2 < n := by
  by_cases e3 : f i = nI 119
  · have := pw_inv (pt_w h e3).1; exact ⟨this.1, this.2.1⟩
  · have := pb_inv (pt_b h e1 e2 e3).1; exact ⟨this.1, this.2.1⟩

set_option maxRecDepth 100000 in
set_option maxHeartbeats 4000000 in
theorem ct_X5_follows (l : Launch) (g : GT) (o n i N : Nat) (S : MS) (hln : S.2.1 13 = nI n) (hat : S.2.1 14 = nI i) (hn6 : n ≤ 60) (hi : i < n) (hN : S.1 0 160 = nI N) (hNn : N ≤ 40) (hp : (ptS (S.1 4) n i).1 = true) (hE : endB (S.1 4) n (ptS (S.1 4) n i).2) : Ct l g yX5_follows cX5_follows 7 (some .boolean) 5 0 0 [.ref o] (MW g o S) (fun r H H1 => ∃ (j : Nat), (j = (ptS (S.1 4) n i).2) ∧ (j ≤ n) ∧ r = some (.int (bI ((folR (S.1 4) n i (S.1 0) N).1))) ∧ MW g o (uS (uA S 0 ((folR (S.1 4) n i (S.1 0) N).2.1)) 14 (nI j)) H1 ∧ Off o H H1) := by
  refine Ct.of (by decide) (Nat.le_of_ble_eq_true rfl) ?_
  intro p e s m args below meth c X hP ls hl
  have hx := X.1
  have hb := X.2.1
  have hKV := X.2.2.2.2.2.2.2.1.1
  have hL : ∀ q ∈ ([] : List Loc), gLo g ≤ q.base := fun _ h => by cases h
  have hl : lv_has ls 7 [(0, .ref o)] := hl
  have hW : MW g o S s.heap := hP
  have hO : Off o s.heap s.heap := Off.rfl'
  refine lv_aload_n hx hb dX5_follows_0 rfl (lv_at hl 0 rfl) ?_
  refine mg_22 X rfl hW dX5_follows_1 ?_
  refine lv_aload_n hx hb dX5_follows_4 rfl (lv_at hl 0 rfl) ?_
  refine mg_121 X rfl hW dX5_follows_5 (W.stk (w := (nI i)) hat ?_)
  refine m_ld (v := ((S.1 4) i)) X hW 4 (by decide) rfl i rfl (by show i < 60; omega) rfl dX5_follows_8 ?_
  refine lv_istore_n (lv' := [(1, .int _), (0, .ref _)]) hx hb dX5_follows_9 rfl hl (by decide) rfl (fun ls hl => ?_)
  refine lv_iload_n hx hb dX5_follows_10 rfl (lv_at hl 0 rfl) ?_
  refine lv_bipush (v := nI 97) hx hb dX5_follows_11 (by decide) ?_
  refine lv_icmp_ne (tgt := 82) hx hb dX5_follows_13 (by decide) (fun c_13 => ?_) (fun c_13 => ?_)
  ·
    refine lv_iload_n hx hb dX5_follows_82 rfl (lv_at hl 0 rfl) ?_
    refine lv_bipush (v := nI 114) hx hb dX5_follows_83 (by decide) ?_
    refine lv_icmp_ne (tgt := 118) hx hb dX5_follows_85 (by decide) (fun c_85 => ?_) (fun c_85 => ?_)
    ·
      obtain ⟨hwb, hi2⟩ := pt_wb hp c_13 c_85
      obtain ⟨hsd, hs4⟩ := sd_ok hwb
      refine lv_aload_n hx hb dX5_follows_118 rfl (lv_at hl 1 rfl) ?_
      refine mg_22 X rfl hW dX5_follows_119 ?_
      refine lv_aload_n hx hb dX5_follows_122 rfl (lv_at hl 1 rfl) ?_
      refine mg_121 X rfl hW dX5_follows_123 (W.stk (w := (nI i)) hat ?_)
      refine lv_iconst (v := nI 1) hx hb dX5_follows_126 (by decide) ?_
      refine n_iadd X dX5_follows_127 ?_
      refine m_ld (v := ((S.1 4) (i + 1))) X hW 4 (by decide) rfl (i + 1) rfl (by show i + 1 < 60; omega) rfl dX5_follows_128 ?_
      refine lv_bipush (v := nI 48) hx hb dX5_follows_129 (by decide) ?_
      refine lv_isub hx hb dX5_follows_131 ?_
      refine W.stk (w := (nI (sdN (S.1 4) i))) hsd ?_
      refine lv_istore_n (lv' := [(2, .int _), (1, .int _), (0, .ref _)]) hx hb dX5_follows_132 rfl hl (by decide) rfl (fun ls hl => ?_)
      refine lv_aload_n hx hb dX5_follows_133 rfl (lv_at hl 2 rfl) ?_
      refine lv_dup hx hb dX5_follows_134 rfl ?_
      refine mg_121 X rfl hW dX5_follows_135 (W.stk (w := (nI i)) hat ?_)
      refine lv_iconst (v := nI 2) hx hb dX5_follows_138 (by decide) ?_
      refine n_iadd X dX5_follows_139 ?_
      refine mp_121 X rfl hL hW dX5_follows_140 (fun H locs hL hW hO1 => ?_)
      have hO := hO.trans hO1
      have hW := MW.cast (S1 := uS S 14 (nI (i + 2))) hW ⟨rfl, rfl, rfl, rfl, rfl, rfl, rfl, rfl, rfl, rfl, rfl, rfl, rfl, rfl, rfl, rfl, rfl⟩
      refine lv_iload_n hx hb dX5_follows_143 rfl (lv_at hl 1 rfl) ?_
      refine lv_bipush (v := nI 119) hx hb dX5_follows_144 (by decide) ?_
      refine lv_icmp_ne (tgt := 209) hx hb dX5_follows_146 (by decide) (fun c_146 => ?_) (fun c_146 => ?_)
      ·
        obtain ⟨hpb, hpe⟩ := pt_b hp c_13 c_85 c_146
        obtain ⟨v1, v2, ⟨x1, x2, x3, x4⟩, w1, w2, w3, w4⟩ := pb_inv hpb
        refine lv_aload_n hx hb dX5_follows_209 rfl (lv_at hl 2 rfl) ?_
        refine mg_7 X rfl hW dX5_follows_210 ?_
        refine lv_sipush (v := nI 165) hx hb dX5_follows_213 (by decide) ?_
        refine lv_iload_n hx hb dX5_follows_216 rfl (lv_at hl 0 rfl) ?_
        refine n_iadd X dX5_follows_217 ?_
        refine lv_aload_n hx hb dX5_follows_218 rfl (lv_at hl 2 rfl) ?_
        refine Ct.callV (ct_X5_next l g o n (i + 2) (uS S 14 (nI (i + 2))) hln rfl (by omega) (by omega)) X hL hl vb_X5_next q2019 (hW.2.1.recv hKV rfl) rfl rfl (Nat.le_of_ble_eq_true rfl) dX5_follows_219 ⟨Nat.le_of_ble_eq_true rfl, Nat.le_of_ble_eq_true rfl⟩ (by omega) (by omega) hW (fun r H1 locs hL hp => ?_)
        obtain ⟨j_219, u_219, hj_219, hjn_219, hd_219, he_219, rfl, hW, hO1⟩ := hp
        have hO := hO.trans hO1
        have hj_219 : j_219 = (i + 2) + 1 + u_219 := hj_219
        have hjn_219 : j_219 ≤ n := hjn_219
        have hd_219 : ∀ d, d < u_219 → dig (S.1 4) n ((i + 2) + 1 + d) = true := hd_219
        have he_219 : dig (S.1 4) n j_219 = false := he_219
        have hW := MW.cast (S1 := uS S 14 (nI j_219)) hW ⟨rfl, rfl, rfl, rfl, rfl, rfl, rfl, rfl, rfl, rfl, rfl, rfl, rfl, rfl, rfl, rfl, rfl⟩
        refine W.stk (w := (numI (S.1 4) ((i + 2) + 1) u_219)) rfl ?_
        obtain ⟨hu_219, hm_219⟩ := nxt (m := a1N (S.1 4) n (i + 2)) hj_219 hd_219 he_219 (pnS_dig x1) (dig_f x4 (by decide)) (by omega)
        refine m_st X hL hW 0 (by decide) rfl (165 + (sdN (S.1 4) i)) rfl (by show 165 + (sdN (S.1 4) i) < 179; omega) dX5_follows_222 (fun H locs hL hW hO1 => ?_)
        have hO := hO.trans hO1
        have hW := MW.cast (S1 := uS (uA S 0 (upd (S.1 0) (165 + (sdN (S.1 4) i)) (numI (S.1 4) ((i + 2) + 1) u_219))) 14 (nI j_219)) hW ⟨rfl, rfl, rfl, rfl, rfl, rfl, rfl, rfl, rfl, rfl, rfl, rfl, rfl, rfl, rfl, rfl, rfl⟩
        refine lv_aload_n hx hb dX5_follows_223 rfl (lv_at hl 2 rfl) ?_
        refine mg_7 X rfl hW dX5_follows_224 ?_
        refine lv_sipush (v := nI 169) hx hb dX5_follows_227 (by decide) ?_
        refine lv_iload_n hx hb dX5_follows_230 rfl (lv_at hl 0 rfl) ?_
        refine n_iadd X dX5_follows_231 ?_
        refine lv_aload_n hx hb dX5_follows_232 rfl (lv_at hl 2 rfl) ?_
        refine Ct.callV (ct_X5_next l g o n j_219 (uS (uA S 0 (upd (S.1 0) (165 + (sdN (S.1 4) i)) (numI (S.1 4) ((i + 2) + 1) u_219))) 14 (nI j_219)) hln rfl (by omega) (by omega)) X hL hl vb_X5_next q2019 (hW.2.1.recv hKV rfl) rfl rfl (Nat.le_of_ble_eq_true rfl) dX5_follows_233 ⟨Nat.le_of_ble_eq_true rfl, Nat.le_of_ble_eq_true rfl⟩ (by omega) (by omega) hW (fun r H1 locs hL hp => ?_)
        obtain ⟨j_233, u_233, hj_233, hjn_233, hd_233, he_233, rfl, hW, hO1⟩ := hp
        have hO := hO.trans hO1
        have hj_233 : j_233 = j_219 + 1 + u_233 := hj_233
        have hjn_233 : j_233 ≤ n := hjn_233
        have hd_233 : ∀ d, d < u_233 → dig (S.1 4) n (j_219 + 1 + d) = true := hd_233
        have he_233 : dig (S.1 4) n j_233 = false := he_233
        have hW := MW.cast (S1 := uS (uA S 0 (upd (S.1 0) (165 + (sdN (S.1 4) i)) (numI (S.1 4) ((i + 2) + 1) u_219))) 14 (nI j_233)) hW ⟨rfl, rfl, rfl, rfl, rfl, rfl, rfl, rfl, rfl, rfl, rfl, rfl, rfl, rfl, rfl, rfl, rfl⟩
        refine W.stk (w := (numI (S.1 4) (j_219 + 1) u_233)) rfl ?_
        obtain ⟨hu_233, hm_233⟩ := nxt (m := (ptS (S.1 4) n i).2) hj_233 hd_233 he_233 (by rw [hm_219, hpe, w4]; exact pfS_dig w1) hE.dig (by omega)
        refine m_st X hL hW 0 (by decide) rfl (169 + (sdN (S.1 4) i)) rfl (by show 169 + (sdN (S.1 4) i) < 179; omega) dX5_follows_236 (fun H locs hL hW hO1 => ?_)
        have hO := hO.trans hO1
        have hW := MW.cast (S1 := uS (uA S 0 (upd (upd (S.1 0) (165 + (sdN (S.1 4) i)) (numI (S.1 4) ((i + 2) + 1) u_219)) (169 + (sdN (S.1 4) i)) (numI (S.1 4) (j_219 + 1) u_233))) 14 (nI j_233)) hW ⟨rfl, rfl, rfl, rfl, rfl, rfl, rfl, rfl, rfl, rfl, rfl, rfl, rfl, rfl, rfl, rfl, rfl⟩
        refine lv_iconst (v := nI 1) hx hb dX5_follows_237 (by decide) ?_
        exact r_iret X hL rfl rfl dX5_follows_238 (by omega) (by omega) ⟨j_233, hm_233, hjn_233, (by rw [folR, if_neg c_13, if_neg c_85, if_neg c_146]; rfl), (MW.cast hW ⟨(by show upd (upd (S.1 0) (165 + (sdN (S.1 4) i)) (numI (S.1 4) ((i + 2) + 1) u_219)) (169 + (sdN (S.1 4) i)) (numI (S.1 4) (j_219 + 1) u_233) = (folR (S.1 4) n i (S.1 0) N).2.1; rw [folR, if_neg c_13, if_neg c_85, if_neg c_146, hu_219, hu_233, hm_219]; rfl), rfl, rfl, rfl, rfl, rfl, rfl, rfl, rfl, rfl, rfl, rfl, rfl, rfl, rfl, rfl, rfl⟩), hO⟩
      ·
        obtain ⟨hpw, hpe⟩ := pt_w hp c_146
        obtain ⟨v1, v2, v3⟩ := pw_inv hpw
        refine lv_aload_n hx hb dX5_follows_149 rfl (lv_at hl 2 rfl) ?_
        refine mg_7 X rfl hW dX5_follows_150 ?_
        refine lv_sipush (v := nI 161) hx hb dX5_follows_153 (by decide) ?_
        refine lv_iload_n hx hb dX5_follows_156 rfl (lv_at hl 0 rfl) ?_
        refine n_iadd X dX5_follows_157 ?_
        refine lv_aload_n hx hb dX5_follows_158 rfl (lv_at hl 2 rfl) ?_
        refine mg_22 X rfl hW dX5_follows_159 ?_
        refine lv_aload_n hx hb dX5_follows_162 rfl (lv_at hl 2 rfl) ?_
        refine mg_121 X rfl hW dX5_follows_163 (W.stk (w := (nI (i + 2))) rfl ?_)
        refine m_ld (v := ((S.1 4) (i + 2))) X hW 4 (by decide) rfl (i + 2) rfl (by show i + 2 < 60; omega) rfl dX5_follows_166 ?_
        refine lv_bipush (v := nI 45) hx hb dX5_follows_167 (by decide) ?_
        refine lv_icmp_ne (tgt := 176) hx hb dX5_follows_169 (by decide) (fun c_169 => ?_) (fun c_169 => ?_)
        ·
          refine lv_aload_n hx hb dX5_follows_176 rfl (lv_at hl 2 rfl) ?_
          refine mg_22 X rfl hW dX5_follows_177 ?_
          refine lv_aload_n hx hb dX5_follows_180 rfl (lv_at hl 2 rfl) ?_
          refine mg_121 X rfl hW dX5_follows_181 (W.stk (w := (nI (i + 2))) rfl ?_)
          refine m_ld (v := ((S.1 4) (i + 2))) X hW 4 (by decide) rfl (i + 2) rfl (by show i + 2 < 60; omega) rfl dX5_follows_184 ?_
          refine lv_bipush (v := nI 43) hx hb dX5_follows_185 (by decide) ?_
          refine lv_icmp_ne (tgt := 194) hx hb dX5_follows_187 (by decide) (fun c_187 => ?_) (fun c_187 => ?_)
          ·
            refine lv_iconst (v := nI 2) hx hb dX5_follows_194 (by decide) ?_
            refine m_st X hL hW 0 (by decide) rfl (161 + (sdN (S.1 4) i)) rfl (by show 161 + (sdN (S.1 4) i) < 179; omega) dX5_follows_195 (fun H locs hL hW hO1 => ?_)
            have hO := hO.trans hO1
            have hW := MW.cast (S1 := uS (uA S 0 (upd (S.1 0) (161 + (sdN (S.1 4) i)) (nI 2))) 14 (nI (i + 2))) hW ⟨rfl, rfl, rfl, rfl, rfl, rfl, rfl, rfl, rfl, rfl, rfl, rfl, rfl, rfl, rfl, rfl, rfl⟩
            refine lv_aload_n hx hb dX5_follows_196 rfl (lv_at hl 2 rfl) ?_
            refine lv_dup hx hb dX5_follows_197 rfl ?_
            refine mg_121 X rfl hW dX5_follows_198 (W.stk (w := (nI (i + 2))) rfl ?_)
            refine lv_iconst (v := nI 1) hx hb dX5_follows_201 (by decide) ?_
            refine n_iadd X dX5_follows_202 ?_
            refine mp_121 X rfl hL hW dX5_follows_203 (fun H locs hL hW hO1 => ?_)
            have hO := hO.trans hO1
            have hW := MW.cast (S1 := uS (uA S 0 (upd (S.1 0) (161 + (sdN (S.1 4) i)) (nI 2))) 14 (nI ((i + 2) + 1))) hW ⟨rfl, rfl, rfl, rfl, rfl, rfl, rfl, rfl, rfl, rfl, rfl, rfl, rfl, rfl, rfl, rfl, rfl⟩
            refine lv_goto (tgt := 237) hx hb dX5_follows_206 (by decide) ?_
            refine lv_iconst (v := nI 1) hx hb dX5_follows_237 (by decide) ?_
            exact r_iret X hL rfl rfl dX5_follows_238 (by omega) (by omega) ⟨i + 2 + 1, (by rw [hpe, v3]), (by omega), (by rw [folR, if_neg c_13, if_neg c_85, if_pos c_146]; rfl), (MW.cast hW ⟨(by show upd (S.1 0) (161 + sdN (S.1 4) i) _ = (folR (S.1 4) n i (S.1 0) N).2.1; rw [folR, if_neg c_13, if_neg c_85, if_pos c_146]; exact congrArg (upd _ _) (by unfold wiI; first | (rw [if_pos c_169]; done) | (rw [if_neg c_169, if_pos c_187]; done) | (rw [if_neg c_169, if_neg c_187]; done))), rfl, rfl, rfl, rfl, rfl, rfl, rfl, rfl, rfl, rfl, rfl, rfl, rfl, rfl, rfl, rfl⟩), hO⟩
          ·
            refine lv_iconst (v := nI 1) hx hb dX5_follows_190 (by decide) ?_
            refine lv_goto (tgt := 195) hx hb dX5_follows_191 (by decide) ?_
            refine m_st X hL hW 0 (by decide) rfl (161 + (sdN (S.1 4) i)) rfl (by show 161 + (sdN (S.1 4) i) < 179; omega) dX5_follows_195 (fun H locs hL hW hO1 => ?_)
            have hO := hO.trans hO1
            have hW := MW.cast (S1 := uS (uA S 0 (upd (S.1 0) (161 + (sdN (S.1 4) i)) (nI 1))) 14 (nI (i + 2))) hW ⟨rfl, rfl, rfl, rfl, rfl, rfl, rfl, rfl, rfl, rfl, rfl, rfl, rfl, rfl, rfl, rfl, rfl⟩
            refine lv_aload_n hx hb dX5_follows_196 rfl (lv_at hl 2 rfl) ?_
            refine lv_dup hx hb dX5_follows_197 rfl ?_
            refine mg_121 X rfl hW dX5_follows_198 (W.stk (w := (nI (i + 2))) rfl ?_)
            refine lv_iconst (v := nI 1) hx hb dX5_follows_201 (by decide) ?_
            refine n_iadd X dX5_follows_202 ?_
            refine mp_121 X rfl hL hW dX5_follows_203 (fun H locs hL hW hO1 => ?_)
            have hO := hO.trans hO1
            have hW := MW.cast (S1 := uS (uA S 0 (upd (S.1 0) (161 + (sdN (S.1 4) i)) (nI 1))) 14 (nI ((i + 2) + 1))) hW ⟨rfl, rfl, rfl, rfl, rfl, rfl, rfl, rfl, rfl, rfl, rfl, rfl, rfl, rfl, rfl, rfl, rfl⟩
            refine lv_goto (tgt := 237) hx hb dX5_follows_206 (by decide) ?_
            refine lv_iconst (v := nI 1) hx hb dX5_follows_237 (by decide) ?_
            exact r_iret X hL rfl rfl dX5_follows_238 (by omega) (by omega) ⟨i + 2 + 1, (by rw [hpe, v3]), (by omega), (by rw [folR, if_neg c_13, if_neg c_85, if_pos c_146]; rfl), (MW.cast hW ⟨(by show upd (S.1 0) (161 + sdN (S.1 4) i) _ = (folR (S.1 4) n i (S.1 0) N).2.1; rw [folR, if_neg c_13, if_neg c_85, if_pos c_146]; exact congrArg (upd _ _) (by unfold wiI; first | (rw [if_pos c_169]; done) | (rw [if_neg c_169, if_pos c_187]; done) | (rw [if_neg c_169, if_neg c_187]; done))), rfl, rfl, rfl, rfl, rfl, rfl, rfl, rfl, rfl, rfl, rfl, rfl, rfl, rfl, rfl, rfl⟩), hO⟩
        ·
          refine lv_iconst (v := nI 0) hx hb dX5_follows_172 (by decide) ?_
          refine lv_goto (tgt := 195) hx hb dX5_follows_173 (by decide) ?_
          refine m_st X hL hW 0 (by decide) rfl (161 + (sdN (S.1 4) i)) rfl (by show 161 + (sdN (S.1 4) i) < 179; omega) dX5_follows_195 (fun H locs hL hW hO1 => ?_)
          have hO := hO.trans hO1
          have hW := MW.cast (S1 := uS (uA S 0 (upd (S.1 0) (161 + (sdN (S.1 4) i)) (nI 0))) 14 (nI (i + 2))) hW ⟨rfl, rfl, rfl, rfl, rfl, rfl, rfl, rfl, rfl, rfl, rfl, rfl, rfl, rfl, rfl, rfl, rfl⟩
          refine lv_aload_n hx hb dX5_follows_196 rfl (lv_at hl 2 rfl) ?_
          refine lv_dup hx hb dX5_follows_197 rfl ?_
          refine mg_121 X rfl hW dX5_follows_198 (W.stk (w := (nI (i + 2))) rfl ?_)
          refine lv_iconst (v := nI 1) hx hb dX5_follows_201 (by decide) ?_
          refine n_iadd X dX5_follows_202 ?_
          refine mp_121 X rfl hL hW dX5_follows_203 (fun H locs hL hW hO1 => ?_)
          have hO := hO.trans hO1
          have hW := MW.cast (S1 := uS (uA S 0 (upd (S.1 0) (161 + (sdN (S.1 4) i)) (nI 0))) 14 (nI ((i + 2) + 1))) hW ⟨rfl, rfl, rfl, rfl, rfl, rfl, rfl, rfl, rfl, rfl, rfl, rfl, rfl, rfl, rfl, rfl, rfl⟩
          refine lv_goto (tgt := 237) hx hb dX5_follows_206 (by decide) ?_
          refine lv_iconst (v := nI 1) hx hb dX5_follows_237 (by decide) ?_
          exact r_iret X hL rfl rfl dX5_follows_238 (by omega) (by omega) ⟨i + 2 + 1, (by rw [hpe, v3]), (by omega), (by rw [folR, if_neg c_13, if_neg c_85, if_pos c_146]; rfl), (MW.cast hW ⟨(by show upd (S.1 0) (161 + sdN (S.1 4) i) _ = (folR (S.1 4) n i (S.1 0) N).2.1; rw [folR, if_neg c_13, if_neg c_85, if_pos c_146]; exact congrArg (upd _ _) (by unfold wiI; first | (rw [if_pos c_169]; done) | (rw [if_neg c_169, if_pos c_187]; done) | (rw [if_neg c_169, if_neg c_187]; done))), rfl, rfl, rfl, rfl, rfl, rfl, rfl, rfl, rfl, rfl, rfl, rfl, rfl, rfl, rfl, rfl⟩), hO⟩
    ·
      obtain ⟨hpr, hpe⟩ := pt_r hp c_85
      have hb1 := (pnS_b (f := S.1 4) (t := 39) (show i + 1 ≤ n from hi)).1
      refine lv_aload_n hx hb dX5_follows_88 rfl (lv_at hl 1 rfl) ?_
      refine Ct.callV (ct_X5_next l g o n i S hln hat (by omega) (by omega)) X hL hl vb_X5_next q2019 (hW.2.1.recv hKV rfl) rfl rfl (Nat.le_of_ble_eq_true rfl) dX5_follows_89 ⟨Nat.le_of_ble_eq_true rfl, Nat.le_of_ble_eq_true rfl⟩ (by omega) (by omega) hW (fun r H1 locs hL hp => ?_)
      obtain ⟨j_89, u_89, hj_89, hjn_89, hd_89, he_89, rfl, hW, hO1⟩ := hp
      have hO := hO.trans hO1
      have hj_89 : j_89 = i + 1 + u_89 := hj_89
      have hjn_89 : j_89 ≤ n := hjn_89
      have hd_89 : ∀ d, d < u_89 → dig (S.1 4) n (i + 1 + d) = true := hd_89
      have he_89 : dig (S.1 4) n j_89 = false := he_89
      have hW := MW.cast (S1 := uS S 14 (nI j_89)) hW ⟨rfl, rfl, rfl, rfl, rfl, rfl, rfl, rfl, rfl, rfl, rfl, rfl, rfl, rfl, rfl, rfl, rfl⟩
      refine W.stk (w := (numI (S.1 4) (i + 1) u_89)) rfl ?_
      obtain ⟨hu_89, hm_89⟩ := nxt (m := (ptS (S.1 4) n i).2) hj_89 hd_89 he_89 (by rw [hpe]; exact pnS_dig hpr) hE.dig (by omega)
      have hvv : numI (S.1 4) (i + 1) u_89 = nbI (S.1 4) n (i + 1) 39 := by rw [hu_89, hpe]; rfl
      refine W.stk (w := (nbI (S.1 4) n (i + 1) 39)) hvv ?_
      refine lv_istore_n (lv' := [(2, .int _), (1, .int _), (0, .ref _)]) hx hb dX5_follows_92 rfl hl (by decide) rfl (fun ls hl => ?_)
      refine lv_aload_n hx hb dX5_follows_93 rfl (lv_at hl 2 rfl) ?_
      refine lv_iload_n hx hb dX5_follows_94 rfl (lv_at hl 0 rfl) ?_
      refine Cp.callV (v := .int (bI (noB N (nbI (S.1 4) n (i + 1) 39)))) (ct_X5_isNone l g o N (uS S 14 (nI j_89)) (nbI (S.1 4) n (i + 1) 39) hN hNn) X hL hl vb_X5_isNone q1900 (hW.2.1.recv hKV rfl) rfl rfl (Nat.le_of_ble_eq_true rfl) dX5_follows_95 ⟨Nat.le_of_ble_eq_true rfl, Nat.le_of_ble_eq_true rfl⟩ (by omega) (by omega) hW (fun locs hL => ?_)
      refine b_ifne (tgt := 105) X dX5_follows_98 (by decide) (fun c_98 => ?_) (fun c_98 => ?_)
      ·
        refine lv_iconst (v := nI 0) hx hb dX5_follows_105 (by decide) ?_
        refine lv_istore_n (lv' := [(3, .int _), (2, .int _), (1, .int _), (0, .ref _)]) hx hb dX5_follows_106 rfl hl (by decide) rfl (fun ls hl => ?_)
        refine lv_iload_n hx hb dX5_follows_107 rfl (lv_at hl 0 rfl) ?_
        refine n_ifeq (tgt := 116) X dX5_follows_108 (by decide) (by omega) (fun c_108 => ?_) (fun c_108 => ?_)
        ·
          refine lv_iload_n hx hb dX5_follows_116 rfl (lv_at hl 0 rfl) ?_
          exact r_iret X hL rfl rfl dX5_follows_117 (by omega) (by omega) ⟨j_89, hm_89, hjn_89, (by rw [folR, if_neg c_13, if_pos c_85, if_pos c_98]; rfl), (MW.cast hW ⟨(by show S.1 0 = (folR (S.1 4) n i (S.1 0) N).2.1; rw [folR, if_neg c_13, if_pos c_85, if_pos c_98]), rfl, rfl, rfl, rfl, rfl, rfl, rfl, rfl, rfl, rfl, rfl, rfl, rfl, rfl, rfl, rfl⟩), hO⟩
        ·
          exact absurd c_108 (by decide)
      ·
        refine lv_iconst (v := nI 1) hx hb dX5_follows_101 (by decide) ?_
        refine lv_goto (tgt := 106) hx hb dX5_follows_102 (by decide) ?_
        refine lv_istore_n (lv' := [(3, .int _), (2, .int _), (1, .int _), (0, .ref _)]) hx hb dX5_follows_106 rfl hl (by decide) rfl (fun ls hl => ?_)
        refine lv_iload_n hx hb dX5_follows_107 rfl (lv_at hl 0 rfl) ?_
        refine n_ifeq (tgt := 116) X dX5_follows_108 (by decide) (by omega) (fun c_108 => ?_) (fun c_108 => ?_)
        ·
          exact absurd c_108 (by decide)
        ·
          obtain ⟨hic, hil⟩ := noB_nat hNn c_98
          refine lv_aload_n hx hb dX5_follows_111 rfl (lv_at hl 3 rfl) ?_
          refine lv_iload_n hx hb dX5_follows_112 rfl (lv_at hl 1 rfl) ?_
          refine W.stk (w := (nI ((nbI (S.1 4) n (i + 1) 39).toNatClampNeg))) hic ?_
          refine Ct.callV (ct_X5_removeNow l g o N ((nbI (S.1 4) n (i + 1) 39).toNatClampNeg) (uS S 14 (nI j_89)) hN hNn hil) X hL hl vb_X5_removeNow q1908 (hW.2.1.recv hKV rfl) rfl rfl (Nat.le_of_ble_eq_true rfl) dX5_follows_113 ⟨Nat.le_of_ble_eq_true rfl, Nat.le_of_ble_eq_true rfl⟩ (by omega) (by omega) hW (fun r H1 locs hL hp => ?_)
          obtain ⟨rfl, hW, hO1⟩ := hp
          have hO := hO.trans hO1
          have hW := MW.cast (S1 := uS (uA S 0 (delR (S.1 0) N ((nbI (S.1 4) n (i + 1) 39).toNatClampNeg))) 14 (nI j_89)) hW ⟨rfl, rfl, rfl, rfl, rfl, rfl, rfl, rfl, rfl, rfl, rfl, rfl, rfl, rfl, rfl, rfl, rfl⟩
          refine lv_iload_n hx hb dX5_follows_116 rfl (lv_at hl 0 rfl) ?_
          exact r_iret X hL rfl rfl dX5_follows_117 (by omega) (by omega) ⟨j_89, hm_89, hjn_89, (by rw [folR, if_neg c_13, if_pos c_85, if_neg (by rw [c_98]; decide)]; rfl), (MW.cast hW ⟨(by show delR (S.1 0) N ((nbI (S.1 4) n (i + 1) 39).toNatClampNeg) = (folR (S.1 4) n i (S.1 0) N).2.1; rw [folR, if_neg c_13, if_pos c_85, if_neg (by rw [c_98]; decide)]), rfl, rfl, rfl, rfl, rfl, rfl, rfl, rfl, rfl, rfl, rfl, rfl, rfl, rfl, rfl, rfl⟩), hO⟩
  ·
    obtain ⟨hpa, hpe⟩ := pt_a hp c_13
    obtain ⟨⟨x1, x2, x3, x4⟩, ⟨y1, y2, y3, y4⟩, ⟨z1, z2, z3, z4⟩, w1, w2, w3, w4⟩ := pa_inv hi hpa
    refine lv_aload_n hx hb dX5_follows_16 rfl (lv_at hl 1 rfl) ?_
    refine mg_7 X rfl hW dX5_follows_17 ?_
    refine lv_sipush (v := nI 160) hx hb dX5_follows_20 (by decide) ?_
    refine m_ld (v := (nI N)) X hW 0 (by decide) rfl 160 rfl (by decide) (show (S.1 0) 160 = (nI N) from hN) dX5_follows_23 ?_
    refine lv_bipush (v := nI 40) hx hb dX5_follows_24 (by decide) ?_
    refine n_icmp_ge (tgt := 33) X dX5_follows_26 (by decide) (by omega) (by omega) (fun c_26 => ?_) (fun c_26 => ?_)
    ·
      refine lv_iconst (v := nI 0) hx hb dX5_follows_33 (by decide) ?_
      refine lv_istore_n (lv' := [(2, .int _), (1, .int _), (0, .ref _)]) hx hb dX5_follows_34 rfl hl (by decide) rfl (fun ls hl => ?_)
      refine lv_aload_n hx hb dX5_follows_35 rfl (lv_at hl 2 rfl) ?_
      refine Ct.callV (ct_X5_next l g o n i S hln hat (by omega) (by omega)) X hL hl vb_X5_next q2019 (hW.2.1.recv hKV rfl) rfl rfl (Nat.le_of_ble_eq_true rfl) dX5_follows_36 ⟨Nat.le_of_ble_eq_true rfl, Nat.le_of_ble_eq_true rfl⟩ (by omega) (by omega) hW (fun r H1 locs hL hp => ?_)
      obtain ⟨j_36, u_36, hj_36, hjn_36, hd_36, he_36, rfl, hW, hO1⟩ := hp
      have hO := hO.trans hO1
      have hj_36 : j_36 = i + 1 + u_36 := hj_36
      have hjn_36 : j_36 ≤ n := hjn_36
      have hd_36 : ∀ d, d < u_36 → dig (S.1 4) n (i + 1 + d) = true := hd_36
      have he_36 : dig (S.1 4) n j_36 = false := he_36
      have hW := MW.cast (S1 := uS S 14 (nI j_36)) hW ⟨rfl, rfl, rfl, rfl, rfl, rfl, rfl, rfl, rfl, rfl, rfl, rfl, rfl, rfl, rfl, rfl, rfl⟩
      refine W.stk (w := (numI (S.1 4) (i + 1) u_36)) rfl ?_
      obtain ⟨hu_36, hm_36⟩ := nxt (m := a1N (S.1 4) n i) hj_36 hd_36 he_36 (pnS_dig x1) (dig_f x4 (by decide)) (by omega)
      refine lv_istore_n (lv' := [(3, .int _), (2, .int _), (1, .int _), (0, .ref _)]) hx hb dX5_follows_39 rfl hl (by decide) rfl (fun ls hl => ?_)
      refine lv_aload_n hx hb dX5_follows_40 rfl (lv_at hl 3 rfl) ?_
      refine Ct.callV (ct_X5_next l g o n j_36 (uS S 14 (nI j_36)) hln rfl (by omega) (by omega)) X hL hl vb_X5_next q2019 (hW.2.1.recv hKV rfl) rfl rfl (Nat.le_of_ble_eq_true rfl) dX5_follows_41 ⟨Nat.le_of_ble_eq_true rfl, Nat.le_of_ble_eq_true rfl⟩ (by omega) (by omega) hW (fun r H1 locs hL hp => ?_)
      obtain ⟨j_41, u_41, hj_41, hjn_41, hd_41, he_41, rfl, hW, hO1⟩ := hp
      have hO := hO.trans hO1
      have hj_41 : j_41 = j_36 + 1 + u_41 := hj_41
      have hjn_41 : j_41 ≤ n := hjn_41
      have hd_41 : ∀ d, d < u_41 → dig (S.1 4) n (j_36 + 1 + d) = true := hd_41
      have he_41 : dig (S.1 4) n j_41 = false := he_41
      have hW := MW.cast (S1 := uS S 14 (nI j_41)) hW ⟨rfl, rfl, rfl, rfl, rfl, rfl, rfl, rfl, rfl, rfl, rfl, rfl, rfl, rfl, rfl, rfl, rfl⟩
      refine W.stk (w := (numI (S.1 4) (j_36 + 1) u_41)) rfl ?_
      obtain ⟨hu_41, hm_41⟩ := nxt (m := a1N (S.1 4) n (a1N (S.1 4) n i)) hj_41 hd_41 he_41 (by rw [hm_36]; exact pnS_dig y1) (dig_f y4 (by decide)) (by omega)
      refine lv_istore (lv' := [(4, .int _), (3, .int _), (2, .int _), (1, .int _), (0, .ref _)]) hx hb dX5_follows_44 hl (by decide) rfl (fun ls hl => ?_)
      refine lv_aload_n hx hb dX5_follows_46 rfl (lv_at hl 4 rfl) ?_
      refine Ct.callV (ct_X5_next l g o n j_41 (uS S 14 (nI j_41)) hln rfl (by omega) (by omega)) X hL hl vb_X5_next q2019 (hW.2.1.recv hKV rfl) rfl rfl (Nat.le_of_ble_eq_true rfl) dX5_follows_47 ⟨Nat.le_of_ble_eq_true rfl, Nat.le_of_ble_eq_true rfl⟩ (by omega) (by omega) hW (fun r H1 locs hL hp => ?_)
      obtain ⟨j_47, u_47, hj_47, hjn_47, hd_47, he_47, rfl, hW, hO1⟩ := hp
      have hO := hO.trans hO1
      have hj_47 : j_47 = j_41 + 1 + u_47 := hj_47
      have hjn_47 : j_47 ≤ n := hjn_47
      have hd_47 : ∀ d, d < u_47 → dig (S.1 4) n (j_41 + 1 + d) = true := hd_47
      have he_47 : dig (S.1 4) n j_47 = false := he_47
      have hW := MW.cast (S1 := uS S 14 (nI j_47)) hW ⟨rfl, rfl, rfl, rfl, rfl, rfl, rfl, rfl, rfl, rfl, rfl, rfl, rfl, rfl, rfl, rfl, rfl⟩
      refine W.stk (w := (numI (S.1 4) (j_41 + 1) u_47)) rfl ?_
      obtain ⟨hu_47, hm_47⟩ := nxt (m := a1N (S.1 4) n (a1N (S.1 4) n (a1N (S.1 4) n i))) hj_47 hd_47 he_47 (by rw [hm_41]; exact pnS_dig z1) (dig_f z4 (by decide)) (by omega)
      refine lv_istore (lv' := [(5, .int _), (4, .int _), (3, .int _), (2, .int _), (1, .int _), (0, .ref _)]) hx hb dX5_follows_50 hl (by decide) rfl (fun ls hl => ?_)
      refine lv_aload_n hx hb dX5_follows_52 rfl (lv_at hl 5 rfl) ?_
      refine Ct.callV (ct_X5_next l g o n j_47 (uS S 14 (nI j_47)) hln rfl (by omega) (by omega)) X hL hl vb_X5_next q2019 (hW.2.1.recv hKV rfl) rfl rfl (Nat.le_of_ble_eq_true rfl) dX5_follows_53 ⟨Nat.le_of_ble_eq_true rfl, Nat.le_of_ble_eq_true rfl⟩ (by omega) (by omega) hW (fun r H1 locs hL hp => ?_)
      obtain ⟨j_53, u_53, hj_53, hjn_53, hd_53, he_53, rfl, hW, hO1⟩ := hp
      have hO := hO.trans hO1
      have hj_53 : j_53 = j_47 + 1 + u_53 := hj_53
      have hjn_53 : j_53 ≤ n := hjn_53
      have hd_53 : ∀ d, d < u_53 → dig (S.1 4) n (j_47 + 1 + d) = true := hd_53
      have he_53 : dig (S.1 4) n j_53 = false := he_53
      have hW := MW.cast (S1 := uS S 14 (nI j_53)) hW ⟨rfl, rfl, rfl, rfl, rfl, rfl, rfl, rfl, rfl, rfl, rfl, rfl, rfl, rfl, rfl, rfl, rfl⟩
      refine W.stk (w := (numI (S.1 4) (j_47 + 1) u_53)) rfl ?_
      obtain ⟨hu_53, hm_53⟩ := nxt (m := (ptS (S.1 4) n i).2) hj_53 hd_53 he_53 (by rw [hm_47, hpe, w4]; exact pnS_dig w1) hE.dig (by omega)
      refine lv_istore (lv' := [(6, .int _), (5, .int _), (4, .int _), (3, .int _), (2, .int _), (1, .int _), (0, .ref _)]) hx hb dX5_follows_56 hl (by decide) rfl (fun ls hl => ?_)
      refine lv_iload_n hx hb dX5_follows_58 rfl (lv_at hl 4 rfl) ?_
      refine n_ifeq (tgt := 80) X dX5_follows_59 (by decide) (by omega) (fun c_59 => ?_) (fun c_59 => ?_)
      ·
        refine lv_iconst (v := nI 0) hx hb dX5_follows_80 (by decide) ?_
        exact r_iret X hL rfl rfl dX5_follows_81 (by omega) (by omega) ⟨j_53, hm_53, hjn_53, (by rw [folR, if_pos c_13, if_neg (by omega)]; rfl), (MW.cast hW ⟨(by show S.1 0 = (folR (S.1 4) n i (S.1 0) N).2.1; rw [folR, if_pos c_13, if_neg (by omega)]), rfl, rfl, rfl, rfl, rfl, rfl, rfl, rfl, rfl, rfl, rfl, rfl, rfl, rfl, rfl, rfl⟩), hO⟩
      ·
        exact absurd c_59 (by decide)
    ·
      refine lv_iconst (v := nI 1) hx hb dX5_follows_29 (by decide) ?_
      refine lv_goto (tgt := 34) hx hb dX5_follows_30 (by decide) ?_
      refine lv_istore_n (lv' := [(2, .int _), (1, .int _), (0, .ref _)]) hx hb dX5_follows_34 rfl hl (by decide) rfl (fun ls hl => ?_)
      refine lv_aload_n hx hb dX5_follows_35 rfl (lv_at hl 2 rfl) ?_
      refine Ct.callV (ct_X5_next l g o n i S hln hat (by omega) (by omega)) X hL hl vb_X5_next q2019 (hW.2.1.recv hKV rfl) rfl rfl (Nat.le_of_ble_eq_true rfl) dX5_follows_36 ⟨Nat.le_of_ble_eq_true rfl, Nat.le_of_ble_eq_true rfl⟩ (by omega) (by omega) hW (fun r H1 locs hL hp => ?_)
      obtain ⟨j_36, u_36, hj_36, hjn_36, hd_36, he_36, rfl, hW, hO1⟩ := hp
      have hO := hO.trans hO1
      have hj_36 : j_36 = i + 1 + u_36 := hj_36
      have hjn_36 : j_36 ≤ n := hjn_36
      have hd_36 : ∀ d, d < u_36 → dig (S.1 4) n (i + 1 + d) = true := hd_36
      have he_36 : dig (S.1 4) n j_36 = false := he_36
      have hW := MW.cast (S1 := uS S 14 (nI j_36)) hW ⟨rfl, rfl, rfl, rfl, rfl, rfl, rfl, rfl, rfl, rfl, rfl, rfl, rfl, rfl, rfl, rfl, rfl⟩
      refine W.stk (w := (numI (S.1 4) (i + 1) u_36)) rfl ?_
      obtain ⟨hu_36, hm_36⟩ := nxt (m := a1N (S.1 4) n i) hj_36 hd_36 he_36 (pnS_dig x1) (dig_f x4 (by decide)) (by omega)
      refine lv_istore_n (lv' := [(3, .int _), (2, .int _), (1, .int _), (0, .ref _)]) hx hb dX5_follows_39 rfl hl (by decide) rfl (fun ls hl => ?_)
      refine lv_aload_n hx hb dX5_follows_40 rfl (lv_at hl 3 rfl) ?_
      refine Ct.callV (ct_X5_next l g o n j_36 (uS S 14 (nI j_36)) hln rfl (by omega) (by omega)) X hL hl vb_X5_next q2019 (hW.2.1.recv hKV rfl) rfl rfl (Nat.le_of_ble_eq_true rfl) dX5_follows_41 ⟨Nat.le_of_ble_eq_true rfl, Nat.le_of_ble_eq_true rfl⟩ (by omega) (by omega) hW (fun r H1 locs hL hp => ?_)
      obtain ⟨j_41, u_41, hj_41, hjn_41, hd_41, he_41, rfl, hW, hO1⟩ := hp
      have hO := hO.trans hO1
      have hj_41 : j_41 = j_36 + 1 + u_41 := hj_41
      have hjn_41 : j_41 ≤ n := hjn_41
      have hd_41 : ∀ d, d < u_41 → dig (S.1 4) n (j_36 + 1 + d) = true := hd_41
      have he_41 : dig (S.1 4) n j_41 = false := he_41
      have hW := MW.cast (S1 := uS S 14 (nI j_41)) hW ⟨rfl, rfl, rfl, rfl, rfl, rfl, rfl, rfl, rfl, rfl, rfl, rfl, rfl, rfl, rfl, rfl, rfl⟩
      refine W.stk (w := (numI (S.1 4) (j_36 + 1) u_41)) rfl ?_
      obtain ⟨hu_41, hm_41⟩ := nxt (m := a1N (S.1 4) n (a1N (S.1 4) n i)) hj_41 hd_41 he_41 (by rw [hm_36]; exact pnS_dig y1) (dig_f y4 (by decide)) (by omega)
      refine lv_istore (lv' := [(4, .int _), (3, .int _), (2, .int _), (1, .int _), (0, .ref _)]) hx hb dX5_follows_44 hl (by decide) rfl (fun ls hl => ?_)
      refine lv_aload_n hx hb dX5_follows_46 rfl (lv_at hl 4 rfl) ?_
      refine Ct.callV (ct_X5_next l g o n j_41 (uS S 14 (nI j_41)) hln rfl (by omega) (by omega)) X hL hl vb_X5_next q2019 (hW.2.1.recv hKV rfl) rfl rfl (Nat.le_of_ble_eq_true rfl) dX5_follows_47 ⟨Nat.le_of_ble_eq_true rfl, Nat.le_of_ble_eq_true rfl⟩ (by omega) (by omega) hW (fun r H1 locs hL hp => ?_)
      obtain ⟨j_47, u_47, hj_47, hjn_47, hd_47, he_47, rfl, hW, hO1⟩ := hp
      have hO := hO.trans hO1
      have hj_47 : j_47 = j_41 + 1 + u_47 := hj_47
      have hjn_47 : j_47 ≤ n := hjn_47
      have hd_47 : ∀ d, d < u_47 → dig (S.1 4) n (j_41 + 1 + d) = true := hd_47
      have he_47 : dig (S.1 4) n j_47 = false := he_47
      have hW := MW.cast (S1 := uS S 14 (nI j_47)) hW ⟨rfl, rfl, rfl, rfl, rfl, rfl, rfl, rfl, rfl, rfl, rfl, rfl, rfl, rfl, rfl, rfl, rfl⟩
      refine W.stk (w := (numI (S.1 4) (j_41 + 1) u_47)) rfl ?_
      obtain ⟨hu_47, hm_47⟩ := nxt (m := a1N (S.1 4) n (a1N (S.1 4) n (a1N (S.1 4) n i))) hj_47 hd_47 he_47 (by rw [hm_41]; exact pnS_dig z1) (dig_f z4 (by decide)) (by omega)
      refine lv_istore (lv' := [(5, .int _), (4, .int _), (3, .int _), (2, .int _), (1, .int _), (0, .ref _)]) hx hb dX5_follows_50 hl (by decide) rfl (fun ls hl => ?_)
      refine lv_aload_n hx hb dX5_follows_52 rfl (lv_at hl 5 rfl) ?_
      refine Ct.callV (ct_X5_next l g o n j_47 (uS S 14 (nI j_47)) hln rfl (by omega) (by omega)) X hL hl vb_X5_next q2019 (hW.2.1.recv hKV rfl) rfl rfl (Nat.le_of_ble_eq_true rfl) dX5_follows_53 ⟨Nat.le_of_ble_eq_true rfl, Nat.le_of_ble_eq_true rfl⟩ (by omega) (by omega) hW (fun r H1 locs hL hp => ?_)
      obtain ⟨j_53, u_53, hj_53, hjn_53, hd_53, he_53, rfl, hW, hO1⟩ := hp
      have hO := hO.trans hO1
      have hj_53 : j_53 = j_47 + 1 + u_53 := hj_53
      have hjn_53 : j_53 ≤ n := hjn_53
      have hd_53 : ∀ d, d < u_53 → dig (S.1 4) n (j_47 + 1 + d) = true := hd_53
      have he_53 : dig (S.1 4) n j_53 = false := he_53
      have hW := MW.cast (S1 := uS S 14 (nI j_53)) hW ⟨rfl, rfl, rfl, rfl, rfl, rfl, rfl, rfl, rfl, rfl, rfl, rfl, rfl, rfl, rfl, rfl, rfl⟩
      refine W.stk (w := (numI (S.1 4) (j_47 + 1) u_53)) rfl ?_
      obtain ⟨hu_53, hm_53⟩ := nxt (m := (ptS (S.1 4) n i).2) hj_53 hd_53 he_53 (by rw [hm_47, hpe, w4]; exact pnS_dig w1) hE.dig (by omega)
      refine lv_istore (lv' := [(6, .int _), (5, .int _), (4, .int _), (3, .int _), (2, .int _), (1, .int _), (0, .ref _)]) hx hb dX5_follows_56 hl (by decide) rfl (fun ls hl => ?_)
      refine lv_iload_n hx hb dX5_follows_58 rfl (lv_at hl 4 rfl) ?_
      refine n_ifeq (tgt := 80) X dX5_follows_59 (by decide) (by omega) (fun c_59 => ?_) (fun c_59 => ?_)
      ·
        exact absurd c_59 (by decide)
      ·
        refine lv_aload_n hx hb dX5_follows_62 rfl (lv_at hl 6 rfl) ?_
        refine lv_iload_n hx hb dX5_follows_63 rfl (lv_at hl 3 rfl) ?_
        refine lv_iload hx hb dX5_follows_64 (lv_at hl 2 rfl) ?_
        refine lv_iload hx hb dX5_follows_66 (lv_at hl 1 rfl) ?_
        refine lv_iload hx hb dX5_follows_68 (lv_at hl 0 rfl) ?_
        refine Ct.callV (ct_X5_addNow l g o N (uS S 14 (nI j_53)) (numI (S.1 4) (i + 1) u_36) (numI (S.1 4) (j_36 + 1) u_41) (numI (S.1 4) (j_41 + 1) u_47) (numI (S.1 4) (j_47 + 1) u_53) hN (by omega)) X hL hl vb_X5_addNow q1892 (hW.2.1.recv hKV rfl) rfl rfl (Nat.le_of_ble_eq_true rfl) dX5_follows_70 ⟨Nat.le_of_ble_eq_true rfl, Nat.le_of_ble_eq_true rfl⟩ (by omega) (by omega) hW (fun r H1 locs hL hp => ?_)
        obtain ⟨rfl, hW, hO1⟩ := hp
        have hO := hO.trans hO1
        have hW := MW.cast (S1 := uS (uA S 0 (addR (S.1 0) N (numI (S.1 4) (i + 1) u_36) (numI (S.1 4) (j_36 + 1) u_41) (numI (S.1 4) (j_41 + 1) u_47) (numI (S.1 4) (j_47 + 1) u_53))) 14 (nI j_53)) hW ⟨rfl, rfl, rfl, rfl, rfl, rfl, rfl, rfl, rfl, rfl, rfl, rfl, rfl, rfl, rfl, rfl, rfl⟩
        refine W.stk (w := (nI N)) rfl ?_
        refine n_iflt (tgt := 80) X dX5_follows_73 (by decide) (by omega) (fun c_73 => ?_) (fun c_73 => ?_)
        ·
          exact c_73.elim
        ·
          refine lv_iconst (v := nI 1) hx hb dX5_follows_76 (by decide) ?_
          refine lv_goto (tgt := 81) hx hb dX5_follows_77 (by decide) ?_
          exact r_iret X hL rfl rfl dX5_follows_81 (by omega) (by omega) ⟨j_53, hm_53, hjn_53, (by rw [folR, if_pos c_13, if_pos (by omega)]; rfl), (MW.cast hW ⟨(by show addR (S.1 0) N (numI (S.1 4) (i + 1) u_36) (numI (S.1 4) (j_36 + 1) u_41) (numI (S.1 4) (j_41 + 1) u_47) (numI (S.1 4) (j_47 + 1) u_53) = (folR (S.1 4) n i (S.1 0) N).2.1; rw [folR, if_pos c_13, if_pos (by omega), hu_36, hu_41, hu_47, hu_53, hm_36, hm_41, hm_47, hpe, w4]; rfl), rfl, rfl, rfl, rfl, rfl, rfl, rfl, rfl, rfl, rfl, rfl, rfl, rfl, rfl, rfl, rfl⟩), hO⟩
theorem vb_X5_follows : VB yX5_follows cX5_follows 7 (some .boolean) 0 := ⟨q2017, qs74, q111, q2018, ⟨by decide, by decide, by decide +kernel⟩⟩
