/-! the reader: signs, digits, numbers -/
def RdF (g : GT) (PB : Nat → Prop) (rd ta o : Nat) : Prop := gLo g ≤ rd ∧ gLo g ≤ ta ∧ rd ≠ ta ∧ rd ≠ o ∧ ta ≠ o ∧ ¬ PB rd ∧ ¬ PB ta
def RdX (g : GT) (PB : Nat → Prop) (f : Nat → Int32) (n i : Nat) (w sd : Int32) (tf : Nat → Int32) (rd ta o st dq sl bf : Nat) (hs : Int64) (H : Heap) : Prop := Ob g rd 6 [.int (nI i), .int w, .int sd, .ref ta, .ref o] H ∧ Ar g ta 0 4 tf H ∧ Ob g o 1 [.ref st, .ref dq, .ref sl, .ref bf, .long hs] H ∧ BufR g PB f n bf H
theorem RdX.keep {g : GT} {PB Q : Nat → Prop} {f : Nat → Int32} {n i : Nat} {w sd : Int32} {tf : Nat → Int32} {rd ta o st dq sl bf : Nat} {hs : Int64} {H H1 : Heap} (h : RdX g PB f n i w sd tf rd ta o st dq sl bf hs H) (c : Chg Q H H1) (d1 : ¬ Q rd) (d2 : ¬ Q ta) (d3 : ¬ Q o) (d4 : ∀ q, PB q → ¬ Q q) : RdX g PB f n i w sd tf rd ta o st dq sl bf hs H1 := ⟨h.1.chg c d1, h.2.1.chg c d2, h.2.2.1.chg c d3, h.2.2.2.keep c d4⟩
theorem RdX.ext {g : GT} {PB : Nat → Prop} {f : Nat → Int32} {n i : Nat} {w sd : Int32} {tf : Nat → Int32} {rd ta o st dq sl bf : Nat} {hs : Int64} {H H1 : Heap} (h : RdX g PB f n i w sd tf rd ta o st dq sl bf hs H) (e : Ext H H1) : RdX g PB f n i w sd tf rd ta o st dq sl bf hs H1 := ⟨h.1.ext e, h.2.1.ext e, h.2.2.1.ext e, h.2.2.2.ext e⟩
theorem sg_is {f : Nat → Int32} {n i c : Nat} (hc : 33 ≤ c) (hc2 : c ≤ 126) (h : sgI f n i = nI c) : pS f n i c c = (true, i + 1) := by
  have hs : seeB f n i c c = true := by
    unfold sgI at h
    by_cases q : i < n
    · rw [if_pos q] at h; exact see_1.mpr ⟨q, h⟩
    · rw [if_neg q] at h; exact absurd ((nI_eq (by omega) (by omega)).mp h) (by omega)
  unfold pS; rw [hs]; rfl
theorem sg_no {f : Nat → Int32} {n i c : Nat} (h : ¬ sgI f n i = nI c) : pS f n i c c = (false, i) := by
  have hs : seeB f n i c c = false := by
    cases e : seeB f n i c c
    · rfl
    · obtain ⟨h1, h2⟩ := see_1.mp e
      exact absurd (by unfold sgI; rw [if_pos h1]; exact h2) h
  unfold pS; rw [hs]; rfl
theorem inB_le {x : Int32} {k : Nat} (hk : k ≤ 9) (h : inB x (nI 0) (nI 9) = false) : inB x (nI 0) (nI k) = false := by
  cases e : inB x (nI 0) (nI k)
  · rfl
  · exfalso
    unfold inB at h e
    rw [Bool.and_eq_true, decide_eq_true_eq, decide_eq_true_eq] at e
    have : nI k ≤ nI 9 := by rw [Int32.le_iff_toInt_le, nI_toInt (by omega), nI_toInt (by omega)]; omega
    rw [decide_eq_true e.1, decide_eq_true (Int32.le_trans e.2 this)] at h
    exact absurd h (by decide)
theorem dg_see (f : Nat → Int32) (n i : Nat) : inB (sgI f n i - nI 48) (nI 0) (nI 3) = (pS f n i 48 51).1 := by
  show _ = seeB f n i 48 51
  rcases sg_dig f n i with ⟨d, h1, h2, h3, h4⟩ | ⟨h1, h2⟩
  · rw [h4, inB_n (by omega) (by omega) (by omega), see_at h2 h3 h1 (by omega) (by omega)]
    rw [decide_eq_decide]; omega
  · rw [inB_le (by omega) h1, h2 48 51 (by omega) (by omega) (by omega)]
theorem dg_i (f : Nat → Int32) (n i : Nat) : nI i + bI (inB (sgI f n i - nI 48) (nI 0) (nI 3)) = nI (pS f n i 48 51).2 := by
  rw [dg_see]
  show _ = nI (if seeB f n i 48 51 then i + 1 else i)
  have : (pS f n i 48 51).1 = seeB f n i 48 51 := rfl
  rw [this]
  cases seeB f n i 48 51
  · show nI i + nI 0 = nI i
    rw [nI_add, Nat.add_zero]
  · exact nI_add i 1
theorem dg_v {f : Nat → Int32} {n i : Nat} (h : (pS f n i 48 51).1 = true) : sgI f n i - nI 48 = f i - nI 48 := by
  have := see_lt (f := f) (a := 48) (b := 51) h
  unfold sgI; rw [if_pos this]
/-- what number answers -/
def nvI (f : Nat → Int32) (n t0 t1 i : Nat) : Int32 := if (nmG f n (nI t0) (nI t1) 2 i (-1)).2 < nI t0 then (-1) else (nmG f n (nI t0) (nI t1) 2 i (-1)).2
def nInv (f : Nat → Int32) (n t0 t1 i : Nat) (v : Int32) (b : Bool) (k j : Nat) : Prop := nmG f n (nI t0) (nI t1) 2 i (-1) = (if b then nmG f n (nI t0) (nI t1) j k v else (k, v)) ∧ (b = true → (j = 2 ∧ v = (-1)) ∨ (j = 1 ∧ ∃ d, d ≤ 9 ∧ v = nI d) ∨ (j = 0 ∧ ∃ m, 10 ≤ m ∧ m ≤ 99 ∧ v = nI m)) ∧ k ≤ n
theorem n_stop {f : Nat → Int32} {n t0 t1 i k j : Nat} {v : Int32} (h : nInv f n t0 t1 i v true k j) (hb : nmB f n (nI t0) (nI t1) k v = false) : nInv f n t0 t1 i v false k j := by
  refine ⟨?_, fun z => absurd z (by decide), h.2.2⟩
  rw [h.1, if_pos rfl, if_neg (by decide)]
  exact nm_stop hb j
theorem n_dig {f : Nat → Int32} {n k : Nat} {lo hi v : Int32} (h : nmB f n lo hi k v = true) : k < n ∧ ∃ d, d ≤ 9 ∧ sgI f n k - nI 48 = nI d := by
  rcases sg_dig f n k with ⟨d, h1, h2, h3, h4⟩ | ⟨h1, h2⟩
  · exact ⟨h2, d, h1, h4⟩
  · rw [nm_no h1] at h; exact absurd h (by decide)
theorem n_step {f : Nat → Int32} {n t0 t1 i k j : Nat} {v : Int32} (ht0 : t0 ≤ 99) (ht1 : t1 ≤ 99) (h : nInv f n t0 t1 i v true k j) (hb : nmB f n (nI t0) (nI t1) k v = true) : 1 ≤ j ∧ nInv f n t0 t1 i (mxI (nI 0) v * nI 10 + (sgI f n k - nI 48)) true (k + 1) (j - 1) := by
  obtain ⟨hkn, d, hd, he⟩ := n_dig hb
  have hG : ∀ j, nmG f n (nI t0) (nI t1) (j + 1) k v = nmG f n (nI t0) (nI t1) j (k + 1) (mxI (nI 0) v * nI 10 + (sgI f n k - nI 48)) := fun j => by
    rw [nmG, if_pos hb]
  rcases h.2.1 rfl with ⟨rfl, rfl⟩ | ⟨rfl, d0, h0, rfl⟩ | ⟨rfl, m, h1, h2, rfl⟩
  · refine ⟨by omega, ?_, fun _ => Or.inr (Or.inl ⟨rfl, d, hd, by rw [he, nx_0]⟩), hkn⟩
    rw [h.1, if_pos rfl, if_pos rfl, hG]
  · refine ⟨by omega, ?_, fun _ => Or.inr (Or.inr ⟨rfl, 10 * d0 + d, ?_, by omega, by rw [he, nx_n _ _ (by omega)]⟩), hkn⟩
    · rw [h.1, if_pos rfl, if_pos rfl, hG]
    · have : 0 < d0 := by
        rw [nm_n he hd (by omega) ht0 ht1] at hb
        exact (of_decide_eq_true hb).1
      omega
  · rw [nm_two h1 h2 ht0 ht1] at hb; exact absurd hb (by decide)
theorem nm_t {f : Nat → Int32} {n k : Nat} {lo hi v : Int32} (h1 : inB (sgI f n k - nI 48) (nI 0) (nI 9) = true) (h2 : ¬ v = 0) (h3 : cbB (mxI (nI 0) v * nI 10 + (sgI f n k - nI 48)) lo hi = true) : nmB f n lo hi k v = true := by
  unfold nmB; rw [h1, h3, decide_eq_false h2]; rfl
theorem nm_f2 {f : Nat → Int32} {n k : Nat} {lo hi v : Int32} (h2 : v = 0) : nmB f n lo hi k v = false := by
  unfold nmB; rw [decide_eq_true h2]; simp
theorem nm_f3 {f : Nat → Int32} {n k : Nat} {lo hi v : Int32} (h3 : cbB (mxI (nI 0) v * nI 10 + (sgI f n k - nI 48)) lo hi = false) : nmB f n lo hi k v = false := by
  unfold nmB; rw [h3]; simp
theorem m1_lt {t : Nat} (ht : t ≤ 99) : (-1 : Int32) < nI t := by
  rw [Int32.lt_iff_toInt_lt, nI_toInt (by omega)]
  have : (-1 : Int32).toInt = -1 := by decide
  omega
theorem nI_nm1 {m : Nat} (h : m ≤ 1000) : ¬ nI m = (-1 : Int32) := fun e => by
  have h1 := congrArg Int32.toInt e
  rw [nI_toInt (by omega)] at h1
  have : (-1 : Int32).toInt = -1 := by decide
  omega
theorem nI_nlt' {a b : Nat} (h : b ≤ a) (ha : a ≤ 1000) : ¬ nI a < nI b := by
  rw [Int32.not_lt, Int32.le_iff_toInt_le, nI_toInt (by omega), nI_toInt (by omega)]; omega
theorem nv_lo {f : Nat → Int32} {n i t : Nat} (ht : 9 ≤ t) (ht2 : t ≤ 99) : (nmG f n (nI 0) (nI t) 2 i (-1)).1 = (pnS f n i t).2 ∧ (((pnS f n i t).1 = true ∧ nvI f n 0 t i = nbI f n i t ∧ ∃ m, m ≤ t ∧ nbI f n i t = nI m) ∨ ((pnS f n i t).1 = false ∧ nvI f n 0 t i = (-1))) := by
  unfold nvI nbI
  rcases num_lo (f := f) (n := n) (i := i) (k := 0) ht ht2 with ⟨h1, ⟨m, h2, h3⟩, h4⟩ | ⟨h1, h2, h4⟩
  · refine ⟨by rw [h4], Or.inl ⟨h1, ?_, m, h2, h3⟩⟩
    rw [h4]; dsimp only
    rw [h3, if_neg (nI_nlt' (Nat.zero_le _) (by omega))]
  · refine ⟨by rw [h4, h2], Or.inr ⟨h1, ?_⟩⟩
    rw [h4]; dsimp only
    rw [if_pos (m1_lt (by omega))]
theorem nv_hi {f : Nat → Int32} {n i t0 : Nat} (ht : t0 ≤ 99) : (nmG f n (nI t0) (nI 99) 2 i (-1)).1 = (pfS f n i (nI t0)).2 ∧ (((pfS f n i (nI t0)).1 = true ∧ nvI f n t0 99 i = numI f i ((pfS f n i (nI t0)).2 - i) ∧ ∃ m, t0 ≤ m ∧ m ≤ 99 ∧ nvI f n t0 99 i = nI m) ∨ ((pfS f n i (nI t0)).1 = false ∧ nvI f n t0 99 i = (-1))) := by
  unfold nvI
  obtain ⟨e, h⟩ := num_hi (f := f) (n := n) (i := i) (k := 0) ht
  refine ⟨e, ?_⟩
  rcases h with ⟨h1, m, h2, h3, h4, h5⟩ | ⟨h1, h2⟩
  · refine Or.inl ⟨h1, ?_, m, h2, h3, ?_⟩
    · rw [h4, h5, if_neg (nI_nlt' h2 (by omega))]
    · rw [h4, if_neg (nI_nlt' h2 (by omega))]
  · exact Or.inr ⟨h1, if_pos (Int32.not_le.mp h2)⟩

set_option maxRecDepth 100000 in
set_option maxHeartbeats 4000000 in
theorem ct_X7_sign (l : Launch) (g : GT) (PB : Nat → Prop) (f : Nat → Int32) (n i : Nat) (w sd : Int32) (tf : Nat → Int32) (rd ta o st dq sl bf : Nat) (hs : Int64) (hF : RdF g PB rd ta o) (hin : i ≤ n) : Ct l g yX7_sign cX7_sign 1 (some .char) 6 0 0 [.ref rd] (RdX g PB f n i w sd tf rd ta o st dq sl bf hs) (fun r H H1 => r = some (.int (sgI f n i)) ∧ H1 = H) := by
  refine Ct.of (by decide) (Nat.le_of_ble_eq_true rfl) ?_
  intro p e s m args below meth c X hP ls hl
  have hx := X.1
  have hb := X.2.1
  have hKV := X.2.2.2.2.2.2.2.1.1
  have hL : ∀ q ∈ ([] : List Loc), gLo g ≤ q.base := fun _ h => by cases h
  obtain ⟨orr, art, oo, hbf⟩ := hP
  obtain ⟨lrd, lta, n1, n2, n3, n4, n5⟩ := id hF
  have hl : lv_has ls 1 [(0, .ref rd)] := hl
  have hcr := hbf.chr
  refine lv_aload_n hx hb dX7_sign_0 rfl (lv_at hl 0 rfl) ?_
  refine r_get (C := RX7) (T := TX7) (N := 5) (ci := 6) X in_X7 rfl 0 (Nat.le_of_ble_eq_true rfl) q907 (fun _ h => h) orr rfl dX7_sign_1 ?_
  refine lv_aload_n hx hb dX7_sign_4 rfl (lv_at hl 0 rfl) ?_
  refine r_get (C := RX7) (T := TX7) (N := 5) (ci := 6) X in_X7 rfl 4 (Nat.le_of_ble_eq_true rfl) q912 (fun _ h => h) orr rfl dX7_sign_5 ?_
  refine r_getN (C := RX1) (T := TX1) (N := 5) (ci := 1) X in_X1 rfl 3 (Nat.le_of_ble_eq_true rfl) q283 (fun _ h => h) oo rfl dX7_sign_8 ?_
  refine Cp.callV (v := .int (nI n)) (ct_J5_length l g PB f n bf ) X hL hl vb_J5_length q936 (hbf.recv hKV) rfl rfl (Nat.le_of_ble_eq_true rfl) dX7_sign_11 ⟨Nat.le_of_ble_eq_true rfl, Nat.le_of_ble_eq_true rfl⟩ (by omega) (by omega) hbf (fun locs hL => ?_)
  refine n_icmp_ge (tgt := 34) X dX7_sign_14 (by decide) (by omega) (by omega) (fun c_14 => ?_) (fun c_14 => ?_)
  ·
    refine lv_bipush (v := nI 32) hx hb dX7_sign_34 (by decide) ?_
    exact r_iret X hL rfl rfl dX7_sign_36 (by omega) (by omega) ⟨v_i (by unfold sgI; rw [if_neg (by omega)]), rfl⟩
  ·
    refine lv_aload_n hx hb dX7_sign_17 rfl (lv_at hl 0 rfl) ?_
    refine r_get (C := RX7) (T := TX7) (N := 5) (ci := 6) X in_X7 rfl 4 (Nat.le_of_ble_eq_true rfl) q912 (fun _ h => h) orr rfl dX7_sign_18 ?_
    refine r_getN (C := RX1) (T := TX1) (N := 5) (ci := 1) X in_X1 rfl 3 (Nat.le_of_ble_eq_true rfl) q283 (fun _ h => h) oo rfl dX7_sign_21 ?_
    refine lv_aload_n hx hb dX7_sign_24 rfl (lv_at hl 0 rfl) ?_
    refine r_get (C := RX7) (T := TX7) (N := 5) (ci := 6) X in_X7 rfl 0 (Nat.le_of_ble_eq_true rfl) q907 (fun _ h => h) orr rfl dX7_sign_25 ?_
    refine Ct.callV (ct_J5_charAt l g PB f n bf i c_14) X hL hl vb_J5_charAt q937 (hbf.recv hKV) rfl rfl (Nat.le_of_ble_eq_true rfl) dX7_sign_28 ⟨Nat.le_of_ble_eq_true rfl, Nat.le_of_ble_eq_true rfl⟩ (by omega) (by omega) hbf (fun r H locs hL hp => ?_)
    obtain ⟨rfl, rfl⟩ := hp
    refine lv_goto (tgt := 36) hx hb dX7_sign_31 (by decide) ?_
    exact r_iret X hL rfl ((hcr.2 i c_14).nw) dX7_sign_36 (by omega) (by omega) ⟨v_i (by unfold sgI; rw [if_pos c_14]), rfl⟩
theorem vb_X7_sign : VB yX7_sign cX7_sign 1 (some .char) 0 := ⟨q934, qs11, q130, q935, ⟨by decide, by decide, by decide +kernel⟩⟩

set_option maxRecDepth 100000 in
set_option maxHeartbeats 4000000 in
theorem ct_X7_isNext (l : Launch) (g : GT) (PB : Nat → Prop) (f : Nat → Int32) (n i : Nat) (w sd : Int32) (tf : Nat → Int32) (rd ta o st dq sl bf : Nat) (hs : Int64) (ch : Nat) (hF : RdF g PB rd ta o) (hin : i ≤ n) (hc : 33 ≤ ch) (hc2 : ch ≤ 126) : Ct l g yX7_isNext cX7_isNext 3 (some .boolean) 7 0 0 [.ref rd, .int (nI ch)] (RdX g PB f n i w sd tf rd ta o st dq sl bf hs) (fun r H H1 => r = some (.int (bI (pS f n i ch ch).1)) ∧ RdX g PB f n ((pS f n i ch ch).2) w sd tf rd ta o st dq sl bf hs H1 ∧ Chg (fun q => q = rd ∨ q = ta) H H1) := by
  refine Ct.of (by decide) (Nat.le_of_ble_eq_true rfl) ?_
  intro p e s m args below meth c X hP ls hl
  have hx := X.1
  have hb := X.2.1
  have hKV := X.2.2.2.2.2.2.2.1.1
  have hL : ∀ q ∈ ([] : List Loc), gLo g ≤ q.base := fun _ h => by cases h
  obtain ⟨orr, art, oo, hbf⟩ := hP
  obtain ⟨lrd, lta, n1, n2, n3, n4, n5⟩ := id hF
  have hl : lv_has ls 3 [(0, .ref rd), (1, .int (nI ch))] := hl
  have hC : Chg (fun q => q = rd ∨ q = ta) s.heap s.heap := Chg.rfl'
  have hdj : ∀ q, PB q → ¬ (q = rd ∨ q = ta) := fun q hq z => z.elim (fun z => n4 (z ▸ hq)) (fun z => n5 (z ▸ hq))
  have hcr := hbf.chr
  refine lv_aload_n hx hb dX7_isNext_0 rfl (lv_at hl 0 rfl) ?_
  refine Cp.callV (v := .int (sgI f n i)) (ct_X7_sign l g PB f n i w sd tf rd ta o st dq sl bf hs hF (by omega)) X hL hl vb_X7_sign q932 (orr.recv hKV rfl) rfl rfl (Nat.le_of_ble_eq_true rfl) dX7_isNext_1 ⟨Nat.le_of_ble_eq_true rfl, Nat.le_of_ble_eq_true rfl⟩ (by omega) (by omega) ⟨orr, art, oo, hbf⟩ (fun locs hL => ?_)
  refine lv_iload_n hx hb dX7_isNext_4 rfl (lv_at hl 1 rfl) ?_
  refine lv_icmp_ne (tgt := 12) hx hb dX7_isNext_5 (by decide) (fun c_5 => ?_) (fun c_5 => ?_)
  ·
    refine lv_iconst (v := nI 0) hx hb dX7_isNext_12 (by decide) ?_
    refine lv_istore_n (lv' := [(2, .int _), (0, .ref _), (1, .int _)]) hx hb dX7_isNext_13 rfl hl (by decide) rfl (fun ls hl => ?_)
    refine lv_aload_n hx hb dX7_isNext_14 rfl (lv_at hl 1 rfl) ?_
    refine lv_dup hx hb dX7_isNext_15 rfl ?_
    refine r_get (C := RX7) (T := TX7) (N := 5) (ci := 6) X in_X7 rfl 0 (Nat.le_of_ble_eq_true rfl) q907 (fun _ h => h) orr rfl dX7_isNext_16 ?_
    refine lv_iload_n hx hb dX7_isNext_19 rfl (lv_at hl 0 rfl) ?_
    refine Cp.callSN (v := .int (nI 0)) (ct_X1_flag l g false ) X hL hl sb_X1_flag q950 rfl rfl (Nat.le_of_ble_eq_true rfl) dX7_isNext_20 ⟨Nat.le_of_ble_eq_true rfl, Nat.le_of_ble_eq_true rfl⟩ (by omega) (by omega) trivial (fun locs hL => ?_)
    refine n_iadd X dX7_isNext_23 ?_
    refine r_put (C := RX7) (T := TX7) (N := 5) (ci := 6) X in_X7 tyX7 tyX7_ok nmX7 rfl 0 (Nat.le_of_ble_eq_true rfl) q907 (fun _ h => h) rfl hL orr lrd rfl rfl (Nat.le_of_ble_eq_true rfl) dX7_isNext_24 (fun H locs hL h1 h2 => ?_)
    have orr : Ob g rd 6 [.int (nI (i + 0)), .int w, .int sd, .ref ta, .ref o] H := h1
    have art := art.on h2 (Ne.symm n1)
    have oo := oo.on h2 (Ne.symm n2)
    have hbf := hbf.keep (h2.chg (P := fun q => q = rd ∨ q = ta) (Or.inl rfl)) hdj
    have hC := hC.trans (h2.chg (Or.inl rfl))
    refine lv_iload_n hx hb dX7_isNext_27 rfl (lv_at hl 0 rfl) ?_
    exact r_iret X hL rfl rfl dX7_isNext_28 (by omega) (by omega) ⟨v_f (by rw [sg_no c_5]), by rw [sg_no c_5]; exact ⟨orr, art, oo, hbf⟩, hC⟩
  ·
    refine lv_iconst (v := nI 1) hx hb dX7_isNext_8 (by decide) ?_
    refine lv_goto (tgt := 13) hx hb dX7_isNext_9 (by decide) ?_
    refine lv_istore_n (lv' := [(2, .int _), (0, .ref _), (1, .int _)]) hx hb dX7_isNext_13 rfl hl (by decide) rfl (fun ls hl => ?_)
    refine lv_aload_n hx hb dX7_isNext_14 rfl (lv_at hl 1 rfl) ?_
    refine lv_dup hx hb dX7_isNext_15 rfl ?_
    refine r_get (C := RX7) (T := TX7) (N := 5) (ci := 6) X in_X7 rfl 0 (Nat.le_of_ble_eq_true rfl) q907 (fun _ h => h) orr rfl dX7_isNext_16 ?_
    refine lv_iload_n hx hb dX7_isNext_19 rfl (lv_at hl 0 rfl) ?_
    refine Cp.callSN (v := .int (nI 1)) (ct_X1_flag l g true ) X hL hl sb_X1_flag q950 rfl rfl (Nat.le_of_ble_eq_true rfl) dX7_isNext_20 ⟨Nat.le_of_ble_eq_true rfl, Nat.le_of_ble_eq_true rfl⟩ (by omega) (by omega) trivial (fun locs hL => ?_)
    refine n_iadd X dX7_isNext_23 ?_
    refine r_put (C := RX7) (T := TX7) (N := 5) (ci := 6) X in_X7 tyX7 tyX7_ok nmX7 rfl 0 (Nat.le_of_ble_eq_true rfl) q907 (fun _ h => h) rfl hL orr lrd rfl rfl (Nat.le_of_ble_eq_true rfl) dX7_isNext_24 (fun H locs hL h1 h2 => ?_)
    have orr : Ob g rd 6 [.int (nI (i + 1)), .int w, .int sd, .ref ta, .ref o] H := h1
    have art := art.on h2 (Ne.symm n1)
    have oo := oo.on h2 (Ne.symm n2)
    have hbf := hbf.keep (h2.chg (P := fun q => q = rd ∨ q = ta) (Or.inl rfl)) hdj
    have hC := hC.trans (h2.chg (Or.inl rfl))
    refine lv_iload_n hx hb dX7_isNext_27 rfl (lv_at hl 0 rfl) ?_
    exact r_iret X hL rfl rfl dX7_isNext_28 (by omega) (by omega) ⟨v_t (by rw [sg_is hc hc2 c_5]), by rw [sg_is hc hc2 c_5]; exact ⟨orr, art, oo, hbf⟩, hC⟩
theorem vb_X7_isNext : VB yX7_isNext cX7_isNext 3 (some .boolean) 1 := ⟨q957, qs13, q130, q958, ⟨by decide, by decide, by decide +kernel⟩⟩

set_option maxRecDepth 100000 in
set_option maxHeartbeats 4000000 in
theorem ct_X7_digit (l : Launch) (g : GT) (PB : Nat → Prop) (f : Nat → Int32) (n i : Nat) (w sd : Int32) (tf : Nat → Int32) (rd ta o st dq sl bf : Nat) (hs : Int64) (hF : RdF g PB rd ta o) (hin : i ≤ n) : Ct l g yX7_digit cX7_digit 4 (some .int) 7 0 0 [.ref rd, .int (nI 3)] (RdX g PB f n i w sd tf rd ta o st dq sl bf hs) (fun r H H1 => r = some (.int (if (pS f n i 48 51).1 then f i - nI 48 else -1)) ∧ RdX g PB f n ((pS f n i 48 51).2) w sd tf rd ta o st dq sl bf hs H1 ∧ Chg (fun q => q = rd ∨ q = ta) H H1) := by
  refine Ct.of (by decide) (Nat.le_of_ble_eq_true rfl) ?_
  intro p e s m args below meth c X hP ls hl
  have hx := X.1
  have hb := X.2.1
  have hKV := X.2.2.2.2.2.2.2.1.1
  have hL : ∀ q ∈ ([] : List Loc), gLo g ≤ q.base := fun _ h => by cases h
  obtain ⟨orr, art, oo, hbf⟩ := hP
  obtain ⟨lrd, lta, n1, n2, n3, n4, n5⟩ := id hF
  have hl : lv_has ls 4 [(0, .ref rd), (1, .int (nI 3))] := hl
  have hC : Chg (fun q => q = rd ∨ q = ta) s.heap s.heap := Chg.rfl'
  have hdj : ∀ q, PB q → ¬ (q = rd ∨ q = ta) := fun q hq z => z.elim (fun z => n4 (z ▸ hq)) (fun z => n5 (z ▸ hq))
  have hcr := hbf.chr
  refine lv_aload_n hx hb dX7_digit_0 rfl (lv_at hl 0 rfl) ?_
  refine Cp.callV (v := .int (sgI f n i)) (ct_X7_sign l g PB f n i w sd tf rd ta o st dq sl bf hs hF (by omega)) X hL hl vb_X7_sign q932 (orr.recv hKV rfl) rfl rfl (Nat.le_of_ble_eq_true rfl) dX7_digit_1 ⟨Nat.le_of_ble_eq_true rfl, Nat.le_of_ble_eq_true rfl⟩ (by omega) (by omega) ⟨orr, art, oo, hbf⟩ (fun locs hL => ?_)
  refine lv_bipush (v := nI 48) hx hb dX7_digit_4 (by decide) ?_
  refine lv_isub hx hb dX7_digit_6 ?_
  refine lv_istore_n (lv' := [(2, .int _), (0, .ref _), (1, .int _)]) hx hb dX7_digit_7 rfl hl (by decide) rfl (fun ls hl => ?_)
  refine lv_iload_n hx hb dX7_digit_8 rfl (lv_at hl 0 rfl) ?_
  refine lv_iconst (v := nI 0) hx hb dX7_digit_9 (by decide) ?_
  refine lv_iload_n hx hb dX7_digit_10 rfl (lv_at hl 2 rfl) ?_
  refine Cp.callSN (v := .int (bI (inB (sgI f n i - nI 48) (nI 0) (nI 3)))) (ct_X1_inRange l g (sgI f n i - nI 48) (nI 0) (nI 3) ) X hL hl sb_X1_inRange q964 rfl rfl (Nat.le_of_ble_eq_true rfl) dX7_digit_11 ⟨Nat.le_of_ble_eq_true rfl, Nat.le_of_ble_eq_true rfl⟩ (by omega) (by omega) trivial (fun locs hL => ?_)
  refine lv_istore_n (lv' := [(3, .int _), (2, .int _), (0, .ref _), (1, .int _)]) hx hb dX7_digit_14 rfl hl (by decide) rfl (fun ls hl => ?_)
  refine lv_aload_n hx hb dX7_digit_15 rfl (lv_at hl 2 rfl) ?_
  refine lv_dup hx hb dX7_digit_16 rfl ?_
  refine r_get (C := RX7) (T := TX7) (N := 5) (ci := 6) X in_X7 rfl 0 (Nat.le_of_ble_eq_true rfl) q907 (fun _ h => h) orr rfl dX7_digit_17 ?_
  refine lv_iload_n hx hb dX7_digit_20 rfl (lv_at hl 0 rfl) ?_
  refine Cp.callSN (v := .int (bI (inB (sgI f n i - nI 48) (nI 0) (nI 3)))) (ct_X1_flag l g (inB (sgI f n i - nI 48) (nI 0) (nI 3)) ) X hL hl sb_X1_flag q950 rfl rfl (Nat.le_of_ble_eq_true rfl) dX7_digit_21 ⟨Nat.le_of_ble_eq_true rfl, Nat.le_of_ble_eq_true rfl⟩ (by omega) (by omega) trivial (fun locs hL => ?_)
  refine lv_iadd hx hb dX7_digit_24 ?_
  refine W.stk (w := (nI ((pS f n i 48 51).2))) (dg_i f n i) ?_
  refine r_put (C := RX7) (T := TX7) (N := 5) (ci := 6) X in_X7 tyX7 tyX7_ok nmX7 rfl 0 (Nat.le_of_ble_eq_true rfl) q907 (fun _ h => h) rfl hL orr lrd rfl rfl (Nat.le_of_ble_eq_true rfl) dX7_digit_25 (fun H locs hL h1 h2 => ?_)
  have orr : Ob g rd 6 [.int (nI ((pS f n i 48 51).2)), .int w, .int sd, .ref ta, .ref o] H := h1
  have art := art.on h2 (Ne.symm n1)
  have oo := oo.on h2 (Ne.symm n2)
  have hbf := hbf.keep (h2.chg (P := fun q => q = rd ∨ q = ta) (Or.inl rfl)) hdj
  have hC := hC.trans (h2.chg (Or.inl rfl))
  refine lv_iload_n hx hb dX7_digit_28 rfl (lv_at hl 0 rfl) ?_
  refine b_ifeq (tgt := 36) X dX7_digit_29 (by decide) (fun c_29 => ?_) (fun c_29 => ?_)
  ·
    refine lv_iconst (v := (-1)) hx hb dX7_digit_36 (by decide) ?_
    exact r_iret X hL rfl rfl dX7_digit_37 (by omega) (by omega) ⟨v_i (by rw [dg_see] at c_29; rw [if_neg (by rw [c_29]; decide)]), ⟨orr, art, oo, hbf⟩, hC⟩
  ·
    refine lv_iload_n hx hb dX7_digit_32 rfl (lv_at hl 1 rfl) ?_
    refine lv_goto (tgt := 37) hx hb dX7_digit_33 (by decide) ?_
    exact r_iret X hL rfl rfl dX7_digit_37 (by omega) (by omega) ⟨v_i (by rw [dg_see] at c_29; rw [if_pos c_29, dg_v c_29]), ⟨orr, art, oo, hbf⟩, hC⟩
theorem vb_X7_digit : VB yX7_digit cX7_digit 4 (some .int) 1 := ⟨q979, qs18, q130, q980, ⟨by decide, by decide, by decide +kernel⟩⟩

set_option maxRecDepth 100000 in
set_option maxHeartbeats 4000000 in
theorem ct_X7_canBegin (l : Launch) (g : GT) (rd : Nat) (v lo hi : Int32)  : Ct l g yX7_canBegin cX7_canBegin 5 (some .boolean) 3 0 0 [.ref rd, .int v, .int lo, .int hi] (fun _ => True) (fun r H H1 => r = some (.int (bI (cbB v lo hi))) ∧ H1 = H) := by
  refine Ct.of (by decide) (Nat.le_of_ble_eq_true rfl) ?_
  intro p e s m args below meth c X hP ls hl
  have hx := X.1
  have hb := X.2.1
  have hKV := X.2.2.2.2.2.2.2.1.1
  have hL : ∀ q ∈ ([] : List Loc), gLo g ≤ q.base := fun _ h => by cases h
  have hl : lv_has ls 5 [(0, .ref rd), (1, .int v), (2, .int lo), (3, .int hi)] := hl
  refine lv_iload_n hx hb dX7_canBegin_0 rfl (lv_at hl 1 rfl) ?_
  refine lv_if_le (tgt := 23) hx hb dX7_canBegin_1 (by decide) (fun c_1 => ?_) (fun c_1 => ?_)
  ·
    refine lv_iconst (v := nI 0) hx hb dX7_canBegin_23 (by decide) ?_
    refine lv_istore (lv' := [(4, .int _), (0, .ref _), (1, .int _), (2, .int _), (3, .int _)]) hx hb dX7_canBegin_24 hl (by decide) rfl (fun ls hl => ?_)
    refine lv_iload_n hx hb dX7_canBegin_26 rfl (lv_at hl 2 rfl) ?_
    refine lv_iload_n hx hb dX7_canBegin_27 rfl (lv_at hl 3 rfl) ?_
    refine lv_iload_n hx hb dX7_canBegin_28 rfl (lv_at hl 4 rfl) ?_
    refine Cp.callSN (v := .int (bI (inB v lo hi))) (ct_X1_inRange l g v lo hi ) X hL hl sb_X1_inRange q964 rfl rfl (Nat.le_of_ble_eq_true rfl) dX7_canBegin_29 ⟨Nat.le_of_ble_eq_true rfl, Nat.le_of_ble_eq_true rfl⟩ (by omega) (by omega) trivial (fun locs hL => ?_)
    refine b_ifne (tgt := 40) X dX7_canBegin_32 (by decide) (fun c_32 => ?_) (fun c_32 => ?_)
    ·
      refine lv_iconst (v := nI 1) hx hb dX7_canBegin_40 (by decide) ?_
      refine lv_goto (tgt := 45) hx hb dX7_canBegin_41 (by decide) ?_
      exact r_iret X hL rfl rfl dX7_canBegin_45 (by omega) (by omega) ⟨v_t (by unfold cbB; rw [c_32]; rfl), rfl⟩
    ·
      refine lv_iload hx hb dX7_canBegin_35 (lv_at hl 0 rfl) ?_
      refine n_ifeq (tgt := 44) X dX7_canBegin_37 (by decide) (by omega) (fun c_37 => ?_) (fun c_37 => ?_)
      ·
        refine lv_iconst (v := nI 0) hx hb dX7_canBegin_44 (by decide) ?_
        exact r_iret X hL rfl rfl dX7_canBegin_45 (by omega) (by omega) ⟨v_f (by unfold cbB; rw [c_32, decide_eq_false (Int32.not_lt.mpr c_1)]; rfl), rfl⟩
      ·
        exact absurd c_37 (by decide)
  ·
    refine lv_bipush (v := nI 10) hx hb dX7_canBegin_4 (by decide) ?_
    refine lv_iload_n hx hb dX7_canBegin_6 rfl (lv_at hl 1 rfl) ?_
    refine lv_imul hx hb dX7_canBegin_7 ?_
    refine lv_iload_n hx hb dX7_canBegin_8 rfl (lv_at hl 2 rfl) ?_
    refine lv_bipush (v := nI 9) hx hb dX7_canBegin_9 (by decide) ?_
    refine lv_isub hx hb dX7_canBegin_11 ?_
    refine lv_iload_n hx hb dX7_canBegin_12 rfl (lv_at hl 3 rfl) ?_
    refine Cp.callSN (v := .int (bI (inB (nI 10 * v) (lo - nI 9) hi))) (ct_X1_inRange l g (nI 10 * v) (lo - nI 9) hi ) X hL hl sb_X1_inRange q964 rfl rfl (Nat.le_of_ble_eq_true rfl) dX7_canBegin_13 ⟨Nat.le_of_ble_eq_true rfl, Nat.le_of_ble_eq_true rfl⟩ (by omega) (by omega) trivial (fun locs hL => ?_)
    refine b_ifeq (tgt := 23) X dX7_canBegin_16 (by decide) (fun c_16 => ?_) (fun c_16 => ?_)
    ·
      refine lv_iconst (v := nI 0) hx hb dX7_canBegin_23 (by decide) ?_
      refine lv_istore (lv' := [(4, .int _), (0, .ref _), (1, .int _), (2, .int _), (3, .int _)]) hx hb dX7_canBegin_24 hl (by decide) rfl (fun ls hl => ?_)
      refine lv_iload_n hx hb dX7_canBegin_26 rfl (lv_at hl 2 rfl) ?_
      refine lv_iload_n hx hb dX7_canBegin_27 rfl (lv_at hl 3 rfl) ?_
      refine lv_iload_n hx hb dX7_canBegin_28 rfl (lv_at hl 4 rfl) ?_
      refine Cp.callSN (v := .int (bI (inB v lo hi))) (ct_X1_inRange l g v lo hi ) X hL hl sb_X1_inRange q964 rfl rfl (Nat.le_of_ble_eq_true rfl) dX7_canBegin_29 ⟨Nat.le_of_ble_eq_true rfl, Nat.le_of_ble_eq_true rfl⟩ (by omega) (by omega) trivial (fun locs hL => ?_)
      refine b_ifne (tgt := 40) X dX7_canBegin_32 (by decide) (fun c_32 => ?_) (fun c_32 => ?_)
      ·
        refine lv_iconst (v := nI 1) hx hb dX7_canBegin_40 (by decide) ?_
        refine lv_goto (tgt := 45) hx hb dX7_canBegin_41 (by decide) ?_
        exact r_iret X hL rfl rfl dX7_canBegin_45 (by omega) (by omega) ⟨v_t (by unfold cbB; rw [c_32]; rfl), rfl⟩
      ·
        refine lv_iload hx hb dX7_canBegin_35 (lv_at hl 0 rfl) ?_
        refine n_ifeq (tgt := 44) X dX7_canBegin_37 (by decide) (by omega) (fun c_37 => ?_) (fun c_37 => ?_)
        ·
          refine lv_iconst (v := nI 0) hx hb dX7_canBegin_44 (by decide) ?_
          exact r_iret X hL rfl rfl dX7_canBegin_45 (by omega) (by omega) ⟨v_f (by unfold cbB; rw [c_32, c_16]; simp), rfl⟩
        ·
          exact absurd c_37 (by decide)
    ·
      refine lv_iconst (v := nI 1) hx hb dX7_canBegin_19 (by decide) ?_
      refine lv_goto (tgt := 24) hx hb dX7_canBegin_20 (by decide) ?_
      refine lv_istore (lv' := [(4, .int _), (0, .ref _), (1, .int _), (2, .int _), (3, .int _)]) hx hb dX7_canBegin_24 hl (by decide) rfl (fun ls hl => ?_)
      refine lv_iload_n hx hb dX7_canBegin_26 rfl (lv_at hl 2 rfl) ?_
      refine lv_iload_n hx hb dX7_canBegin_27 rfl (lv_at hl 3 rfl) ?_
      refine lv_iload_n hx hb dX7_canBegin_28 rfl (lv_at hl 4 rfl) ?_
      refine Cp.callSN (v := .int (bI (inB v lo hi))) (ct_X1_inRange l g v lo hi ) X hL hl sb_X1_inRange q964 rfl rfl (Nat.le_of_ble_eq_true rfl) dX7_canBegin_29 ⟨Nat.le_of_ble_eq_true rfl, Nat.le_of_ble_eq_true rfl⟩ (by omega) (by omega) trivial (fun locs hL => ?_)
      refine b_ifne (tgt := 40) X dX7_canBegin_32 (by decide) (fun c_32 => ?_) (fun c_32 => ?_)
      ·
        refine lv_iconst (v := nI 1) hx hb dX7_canBegin_40 (by decide) ?_
        refine lv_goto (tgt := 45) hx hb dX7_canBegin_41 (by decide) ?_
        exact r_iret X hL rfl rfl dX7_canBegin_45 (by omega) (by omega) ⟨v_t (by unfold cbB; rw [c_32]; rfl), rfl⟩
      ·
        refine lv_iload hx hb dX7_canBegin_35 (lv_at hl 0 rfl) ?_
        refine n_ifeq (tgt := 44) X dX7_canBegin_37 (by decide) (by omega) (fun c_37 => ?_) (fun c_37 => ?_)
        ·
          exact absurd c_37 (by decide)
        ·
          refine lv_iconst (v := nI 1) hx hb dX7_canBegin_40 (by decide) ?_
          refine lv_goto (tgt := 45) hx hb dX7_canBegin_41 (by decide) ?_
          exact r_iret X hL rfl rfl dX7_canBegin_45 (by omega) (by omega) ⟨v_t (by unfold cbB; rw [c_32, c_16, decide_eq_true (Int32.not_le.mp c_1)]; rfl), rfl⟩
theorem vb_X7_canBegin : VB yX7_canBegin cX7_canBegin 5 (some .boolean) 3 := ⟨q967, qs15, q130, q968, ⟨by decide, by decide, by decide +kernel⟩⟩

set_option maxRecDepth 100000 in
set_option maxHeartbeats 4000000 in
theorem ct_X7_number (l : Launch) (g : GT) (PB : Nat → Prop) (f : Nat → Int32) (n i : Nat) (w sd : Int32) (tf : Nat → Int32) (rd ta o st dq sl bf : Nat) (hs : Int64) (t0 t1 : Nat) (hF : RdF g PB rd ta o) (hin : i ≤ n) (ht0 : t0 ≤ 99) (ht1 : t1 ≤ 99) : Ct l g yX7_number cX7_number 7 (some .int) 7 0 0 [.ref rd, .int (nI t0), .int (nI t1)] (RdX g PB f n i w sd tf rd ta o st dq sl bf hs) (fun r H H1 => r = some (.int (nvI f n t0 t1 i)) ∧ RdX g PB f n ((nmG f n (nI t0) (nI t1) 2 i (-1)).1) w sd tf rd ta o st dq sl bf hs H1 ∧ Chg (fun q => q = rd ∨ q = ta) H H1) := by
  refine Ct.of (by decide) (Nat.le_of_ble_eq_true rfl) ?_
  intro p e s m args below meth c X hP ls hl
  have hx := X.1
  have hb := X.2.1
  have hKV := X.2.2.2.2.2.2.2.1.1
  have hL : ∀ q ∈ ([] : List Loc), gLo g ≤ q.base := fun _ h => by cases h
  obtain ⟨orr, art, oo, hbf⟩ := hP
  obtain ⟨lrd, lta, n1, n2, n3, n4, n5⟩ := id hF
  have hl : lv_has ls 7 [(0, .ref rd), (1, .int (nI t0)), (2, .int (nI t1))] := hl
  have hC : Chg (fun q => q = rd ∨ q = ta) s.heap s.heap := Chg.rfl'
  have hdj : ∀ q, PB q → ¬ (q = rd ∨ q = ta) := fun q hq z => z.elim (fun z => n4 (z ▸ hq)) (fun z => n5 (z ▸ hq))
  have hcr := hbf.chr
  refine lv_iconst (v := (-1)) hx hb dX7_number_0 (by decide) ?_
  refine lv_istore_n (lv' := [(3, .int _), (0, .ref _), (1, .int _), (2, .int _)]) hx hb dX7_number_1 rfl hl (by decide) rfl (fun ls hl => ?_)
  refine lv_iconst (v := nI 1) hx hb dX7_number_2 (by decide) ?_
  refine lv_istore (lv' := [(4, .int _), (3, .int _), (0, .ref _), (1, .int _), (2, .int _)]) hx hb dX7_number_3 hl (by decide) rfl (fun ls hl => ?_)
  have L5 : ∀ (fuel : Nat) (v : Int32) (b : Bool) (k j : Nat), (if b then j + 1 else 0) < fuel → (nInv f n t0 t1 i v b k j) → ∀ (H : Heap), Ob g rd 6 [.int (nI k), .int w, .int sd, .ref ta, .ref o] H → Ar g ta 0 4 tf H → Ob g o 1 [.ref st, .ref dq, .ref sl, .ref bf, .long hs] H → BufR g PB f n bf H → Chg (fun q => q = rd ∨ q = ta) s.heap H → ∀ (locs : List Loc), (∀ q ∈ locs, gLo g ≤ q.base) → ∀ (ls : Array Slot), lv_has ls 7 [(0, .ref rd), (1, .int (nI t0)), (2, .int (nI t1)), (3, .int v), (4, .int (bI b))] → W p l e (rmL 7 0 0) s m args below meth c H locs 0 0 (MQ below (Qcg (fun r H H1 => r = some (.int (nvI f n t0 t1 i)) ∧ RdX g PB f n ((nmG f n (nI t0) (nI t1) 2 i (-1)).1) w sd tf rd ta o st dq sl bf hs H1 ∧ Chg (fun q => q = rd ∨ q = ta) H H1)) args s 0 0 (fre g)) (F0 m 5 ls []) := by
    intro fuel
    induction fuel with
    | zero => intro v b k j hfu; exact absurd hfu (Nat.not_lt_zero _)
    | succ fuel ih5 =>
      intro v b k j hfu hinv H orr art oo hbf hC locs hL ls hl
      refine lv_iload hx hb dX7_number_5 (lv_at hl 4 rfl) ?_
      refine b_ifeq (tgt := 94) X dX7_number_7 (by decide) (fun c_7 => ?_) (fun c_7 => ?_)
      ·
        refine lv_iload_n hx hb dX7_number_94 rfl (lv_at hl 3 rfl) ?_
        refine lv_iload_n hx hb dX7_number_95 rfl (lv_at hl 1 rfl) ?_
        refine lv_icmp_lt (tgt := 103) hx hb dX7_number_96 (by decide) (fun c_96 => ?_) (fun c_96 => ?_)
        ·
          refine lv_iconst (v := (-1)) hx hb dX7_number_103 (by decide) ?_
          exact r_iret X hL rfl rfl dX7_number_104 (by omega) (by omega) ⟨v_i (by have e := hinv.1; rw [c_7, if_neg (by decide)] at e; unfold nvI; rw [e, if_pos c_96]), by have e := hinv.1; rw [c_7, if_neg (by decide)] at e; rw [e]; exact ⟨orr, art, oo, hbf⟩, hC⟩
        ·
          refine lv_iload_n hx hb dX7_number_99 rfl (lv_at hl 3 rfl) ?_
          refine lv_goto (tgt := 104) hx hb dX7_number_100 (by decide) ?_
          exact r_iret X hL rfl rfl dX7_number_104 (by omega) (by omega) ⟨v_i (by have e := hinv.1; rw [c_7, if_neg (by decide)] at e; unfold nvI; rw [e, if_neg c_96]), by have e := hinv.1; rw [c_7, if_neg (by decide)] at e; rw [e]; exact ⟨orr, art, oo, hbf⟩, hC⟩
      ·
        refine lv_aload_n hx hb dX7_number_10 rfl (lv_at hl 0 rfl) ?_
        refine Cp.callV (v := .int (sgI f n k)) (ct_X7_sign l g PB f n k w sd tf rd ta o st dq sl bf hs hF hinv.2.2) X hL hl vb_X7_sign q932 (orr.recv hKV rfl) rfl rfl (Nat.le_of_ble_eq_true rfl) dX7_number_11 ⟨Nat.le_of_ble_eq_true rfl, Nat.le_of_ble_eq_true rfl⟩ (by omega) (by omega) ⟨orr, art, oo, hbf⟩ (fun locs hL => ?_)
        refine lv_bipush (v := nI 48) hx hb dX7_number_14 (by decide) ?_
        refine lv_isub hx hb dX7_number_16 ?_
        refine lv_istore (lv' := [(5, .int _), (0, .ref _), (1, .int _), (2, .int _), (3, .int _), (4, .int _)]) hx hb dX7_number_17 hl (by decide) rfl (fun ls hl => ?_)
        refine lv_iconst (v := nI 0) hx hb dX7_number_19 (by decide) ?_
        refine lv_iload_n hx hb dX7_number_20 rfl (lv_at hl 4 rfl) ?_
        refine va_mmax hx hb (X.2.2.1.trans hl.1.symm) X.2.2.2.1 (X.2.2.2.2.1 _ q963) (X.2.2.2.2.1 _ q380) (X.2.2.2.2.1 _ q120) (X.2.2.2.2.1 _ q381) (Nat.le_of_ble_eq_true rfl) (Nat.le_of_ble_eq_true rfl) (by show 0 ≤ 0; omega) (by show 0 ≤ 0; omega) dX7_number_21 ?_
        refine W.stk (w := mxI (nI 0) v) rfl ?_
        refine lv_bipush (v := nI 10) hx hb dX7_number_24 (by decide) ?_
        refine lv_imul hx hb dX7_number_26 ?_
        refine lv_iload hx hb dX7_number_27 (lv_at hl 0 rfl) ?_
        refine lv_iadd hx hb dX7_number_29 ?_
        refine lv_istore (lv' := [(6, .int _), (5, .int _), (0, .ref _), (1, .int _), (2, .int _), (3, .int _), (4, .int _)]) hx hb dX7_number_30 hl (by decide) rfl (fun ls hl => ?_)
        refine lv_iload hx hb dX7_number_32 (lv_at hl 1 rfl) ?_
        refine lv_iconst (v := nI 0) hx hb dX7_number_34 (by decide) ?_
        refine lv_bipush (v := nI 9) hx hb dX7_number_35 (by decide) ?_
        refine Cp.callSN (v := .int (bI (inB (sgI f n k - nI 48) (nI 0) (nI 9)))) (ct_X1_inRange l g (sgI f n k - nI 48) (nI 0) (nI 9) ) X hL hl sb_X1_inRange q964 rfl rfl (Nat.le_of_ble_eq_true rfl) dX7_number_37 ⟨Nat.le_of_ble_eq_true rfl, Nat.le_of_ble_eq_true rfl⟩ (by omega) (by omega) trivial (fun locs hL => ?_)
        refine b_ifeq (tgt := 62) X dX7_number_40 (by decide) (fun c_40 => ?_) (fun c_40 => ?_)
        ·
          refine lv_iconst (v := nI 0) hx hb dX7_number_62 (by decide) ?_
          refine lv_istore (lv' := [(4, .int _), (6, .int _), (5, .int _), (0, .ref _), (1, .int _), (2, .int _), (3, .int _)]) hx hb dX7_number_63 hl (by decide) rfl (fun ls hl => ?_)
          refine lv_iload hx hb dX7_number_65 (lv_at hl 0 rfl) ?_
          refine n_ifeq (tgt := 75) X dX7_number_67 (by decide) (by omega) (fun c_67 => ?_) (fun c_67 => ?_)
          ·
            refine lv_iload_n hx hb dX7_number_75 rfl (lv_at hl 6 rfl) ?_
            refine lv_istore_n (lv' := [(3, .int _), (4, .int _), (6, .int _), (5, .int _), (0, .ref _), (1, .int _), (2, .int _)]) hx hb dX7_number_76 rfl hl (by decide) rfl (fun ls hl => ?_)
            refine lv_aload_n hx hb dX7_number_77 rfl (lv_at hl 4 rfl) ?_
            refine lv_dup hx hb dX7_number_78 rfl ?_
            refine r_get (C := RX7) (T := TX7) (N := 5) (ci := 6) X in_X7 rfl 0 (Nat.le_of_ble_eq_true rfl) q907 (fun _ h => h) orr rfl dX7_number_79 ?_
            refine lv_iload hx hb dX7_number_82 (lv_at hl 1 rfl) ?_
            refine Cp.callSN (v := .int (nI 0)) (ct_X1_flag l g false ) X hL hl sb_X1_flag q950 rfl rfl (Nat.le_of_ble_eq_true rfl) dX7_number_84 ⟨Nat.le_of_ble_eq_true rfl, Nat.le_of_ble_eq_true rfl⟩ (by omega) (by omega) trivial (fun locs hL => ?_)
            refine n_iadd X dX7_number_87 ?_
            refine r_put (C := RX7) (T := TX7) (N := 5) (ci := 6) X in_X7 tyX7 tyX7_ok nmX7 rfl 0 (Nat.le_of_ble_eq_true rfl) q907 (fun _ h => h) rfl hL orr lrd rfl rfl (Nat.le_of_ble_eq_true rfl) dX7_number_88 (fun H locs hL h1 h2 => ?_)
            have orr : Ob g rd 6 [.int (nI (k + 0)), .int w, .int sd, .ref ta, .ref o] H := h1
            have art := art.on h2 (Ne.symm n1)
            have oo := oo.on h2 (Ne.symm n2)
            have hbf := hbf.keep (h2.chg (P := fun q => q = rd ∨ q = ta) (Or.inl rfl)) hdj
            have hC := hC.trans (h2.chg (Or.inl rfl))
            refine lv_goto (tgt := 5) hx hb dX7_number_91 (by decide) ?_
            exact W.widen (by omega) (by omega) (ih5 v false k j (by rw [c_7, if_pos rfl] at hfu; rw [if_neg (by decide)]; omega) (n_stop (by rw [← c_7]; exact hinv) (nm_no c_40)) _ orr art oo hbf hC _ hL ls (lv_sub hl [4, 5, 6, 0, 1] rfl))
          ·
            exact absurd c_67 (by decide)
        ·
          refine lv_iload_n hx hb dX7_number_43 rfl (lv_at hl 5 rfl) ?_
          refine lv_if_eq (tgt := 62) hx hb dX7_number_44 (by decide) (fun c_44 => ?_) (fun c_44 => ?_)
          ·
            refine lv_iconst (v := nI 0) hx hb dX7_number_62 (by decide) ?_
            refine lv_istore (lv' := [(4, .int _), (6, .int _), (5, .int _), (0, .ref _), (1, .int _), (2, .int _), (3, .int _)]) hx hb dX7_number_63 hl (by decide) rfl (fun ls hl => ?_)
            refine lv_iload hx hb dX7_number_65 (lv_at hl 0 rfl) ?_
            refine n_ifeq (tgt := 75) X dX7_number_67 (by decide) (by omega) (fun c_67 => ?_) (fun c_67 => ?_)
            ·
              refine lv_iload_n hx hb dX7_number_75 rfl (lv_at hl 6 rfl) ?_
              refine lv_istore_n (lv' := [(3, .int _), (4, .int _), (6, .int _), (5, .int _), (0, .ref _), (1, .int _), (2, .int _)]) hx hb dX7_number_76 rfl hl (by decide) rfl (fun ls hl => ?_)
              refine lv_aload_n hx hb dX7_number_77 rfl (lv_at hl 4 rfl) ?_
              refine lv_dup hx hb dX7_number_78 rfl ?_
              refine r_get (C := RX7) (T := TX7) (N := 5) (ci := 6) X in_X7 rfl 0 (Nat.le_of_ble_eq_true rfl) q907 (fun _ h => h) orr rfl dX7_number_79 ?_
              refine lv_iload hx hb dX7_number_82 (lv_at hl 1 rfl) ?_
              refine Cp.callSN (v := .int (nI 0)) (ct_X1_flag l g false ) X hL hl sb_X1_flag q950 rfl rfl (Nat.le_of_ble_eq_true rfl) dX7_number_84 ⟨Nat.le_of_ble_eq_true rfl, Nat.le_of_ble_eq_true rfl⟩ (by omega) (by omega) trivial (fun locs hL => ?_)
              refine n_iadd X dX7_number_87 ?_
              refine r_put (C := RX7) (T := TX7) (N := 5) (ci := 6) X in_X7 tyX7 tyX7_ok nmX7 rfl 0 (Nat.le_of_ble_eq_true rfl) q907 (fun _ h => h) rfl hL orr lrd rfl rfl (Nat.le_of_ble_eq_true rfl) dX7_number_88 (fun H locs hL h1 h2 => ?_)
              have orr : Ob g rd 6 [.int (nI (k + 0)), .int w, .int sd, .ref ta, .ref o] H := h1
              have art := art.on h2 (Ne.symm n1)
              have oo := oo.on h2 (Ne.symm n2)
              have hbf := hbf.keep (h2.chg (P := fun q => q = rd ∨ q = ta) (Or.inl rfl)) hdj
              have hC := hC.trans (h2.chg (Or.inl rfl))
              refine lv_goto (tgt := 5) hx hb dX7_number_91 (by decide) ?_
              exact W.widen (by omega) (by omega) (ih5 v false k j (by rw [c_7, if_pos rfl] at hfu; rw [if_neg (by decide)]; omega) (n_stop (by rw [← c_7]; exact hinv) (nm_f2 c_44)) _ orr art oo hbf hC _ hL ls (lv_sub hl [4, 5, 6, 0, 1] rfl))
            ·
              exact absurd c_67 (by decide)
          ·
            refine lv_aload_n hx hb dX7_number_47 rfl (lv_at hl 2 rfl) ?_
            refine lv_iload hx hb dX7_number_48 (lv_at hl 0 rfl) ?_
            refine lv_iload_n hx hb dX7_number_50 rfl (lv_at hl 3 rfl) ?_
            refine lv_iload_n hx hb dX7_number_51 rfl (lv_at hl 4 rfl) ?_
            refine Cp.callV (v := .int (bI (cbB (mxI (nI 0) v * nI 10 + (sgI f n k - nI 48)) (nI t0) (nI t1)))) (ct_X7_canBegin l g rd (mxI (nI 0) v * nI 10 + (sgI f n k - nI 48)) (nI t0) (nI t1) ) X hL hl vb_X7_canBegin q965 (orr.recv hKV rfl) rfl rfl (Nat.le_of_ble_eq_true rfl) dX7_number_52 ⟨Nat.le_of_ble_eq_true rfl, Nat.le_of_ble_eq_true rfl⟩ (by omega) (by omega) trivial (fun locs hL => ?_)
            refine b_ifeq (tgt := 62) X dX7_number_55 (by decide) (fun c_55 => ?_) (fun c_55 => ?_)
            ·
              refine lv_iconst (v := nI 0) hx hb dX7_number_62 (by decide) ?_
              refine lv_istore (lv' := [(4, .int _), (6, .int _), (5, .int _), (0, .ref _), (1, .int _), (2, .int _), (3, .int _)]) hx hb dX7_number_63 hl (by decide) rfl (fun ls hl => ?_)
              refine lv_iload hx hb dX7_number_65 (lv_at hl 0 rfl) ?_
              refine n_ifeq (tgt := 75) X dX7_number_67 (by decide) (by omega) (fun c_67 => ?_) (fun c_67 => ?_)
              ·
                refine lv_iload_n hx hb dX7_number_75 rfl (lv_at hl 6 rfl) ?_
                refine lv_istore_n (lv' := [(3, .int _), (4, .int _), (6, .int _), (5, .int _), (0, .ref _), (1, .int _), (2, .int _)]) hx hb dX7_number_76 rfl hl (by decide) rfl (fun ls hl => ?_)
                refine lv_aload_n hx hb dX7_number_77 rfl (lv_at hl 4 rfl) ?_
                refine lv_dup hx hb dX7_number_78 rfl ?_
                refine r_get (C := RX7) (T := TX7) (N := 5) (ci := 6) X in_X7 rfl 0 (Nat.le_of_ble_eq_true rfl) q907 (fun _ h => h) orr rfl dX7_number_79 ?_
                refine lv_iload hx hb dX7_number_82 (lv_at hl 1 rfl) ?_
                refine Cp.callSN (v := .int (nI 0)) (ct_X1_flag l g false ) X hL hl sb_X1_flag q950 rfl rfl (Nat.le_of_ble_eq_true rfl) dX7_number_84 ⟨Nat.le_of_ble_eq_true rfl, Nat.le_of_ble_eq_true rfl⟩ (by omega) (by omega) trivial (fun locs hL => ?_)
                refine n_iadd X dX7_number_87 ?_
                refine r_put (C := RX7) (T := TX7) (N := 5) (ci := 6) X in_X7 tyX7 tyX7_ok nmX7 rfl 0 (Nat.le_of_ble_eq_true rfl) q907 (fun _ h => h) rfl hL orr lrd rfl rfl (Nat.le_of_ble_eq_true rfl) dX7_number_88 (fun H locs hL h1 h2 => ?_)
                have orr : Ob g rd 6 [.int (nI (k + 0)), .int w, .int sd, .ref ta, .ref o] H := h1
                have art := art.on h2 (Ne.symm n1)
                have oo := oo.on h2 (Ne.symm n2)
                have hbf := hbf.keep (h2.chg (P := fun q => q = rd ∨ q = ta) (Or.inl rfl)) hdj
                have hC := hC.trans (h2.chg (Or.inl rfl))
                refine lv_goto (tgt := 5) hx hb dX7_number_91 (by decide) ?_
                exact W.widen (by omega) (by omega) (ih5 v false k j (by rw [c_7, if_pos rfl] at hfu; rw [if_neg (by decide)]; omega) (n_stop (by rw [← c_7]; exact hinv) (nm_f3 c_55)) _ orr art oo hbf hC _ hL ls (lv_sub hl [4, 5, 6, 0, 1] rfl))
              ·
                exact absurd c_67 (by decide)
            ·
              refine lv_iconst (v := nI 1) hx hb dX7_number_58 (by decide) ?_
              refine lv_goto (tgt := 63) hx hb dX7_number_59 (by decide) ?_
              refine lv_istore (lv' := [(4, .int _), (6, .int _), (5, .int _), (0, .ref _), (1, .int _), (2, .int _), (3, .int _)]) hx hb dX7_number_63 hl (by decide) rfl (fun ls hl => ?_)
              refine lv_iload hx hb dX7_number_65 (lv_at hl 0 rfl) ?_
              refine n_ifeq (tgt := 75) X dX7_number_67 (by decide) (by omega) (fun c_67 => ?_) (fun c_67 => ?_)
              ·
                exact absurd c_67 (by decide)
              ·
                refine lv_iload hx hb dX7_number_70 (lv_at hl 1 rfl) ?_
                refine lv_goto (tgt := 76) hx hb dX7_number_72 (by decide) ?_
                refine lv_istore_n (lv' := [(3, .int _), (4, .int _), (6, .int _), (5, .int _), (0, .ref _), (1, .int _), (2, .int _)]) hx hb dX7_number_76 rfl hl (by decide) rfl (fun ls hl => ?_)
                refine lv_aload_n hx hb dX7_number_77 rfl (lv_at hl 4 rfl) ?_
                refine lv_dup hx hb dX7_number_78 rfl ?_
                refine r_get (C := RX7) (T := TX7) (N := 5) (ci := 6) X in_X7 rfl 0 (Nat.le_of_ble_eq_true rfl) q907 (fun _ h => h) orr rfl dX7_number_79 ?_
                refine lv_iload hx hb dX7_number_82 (lv_at hl 1 rfl) ?_
                refine Cp.callSN (v := .int (nI 1)) (ct_X1_flag l g true ) X hL hl sb_X1_flag q950 rfl rfl (Nat.le_of_ble_eq_true rfl) dX7_number_84 ⟨Nat.le_of_ble_eq_true rfl, Nat.le_of_ble_eq_true rfl⟩ (by omega) (by omega) trivial (fun locs hL => ?_)
                refine n_iadd X dX7_number_87 ?_
                refine r_put (C := RX7) (T := TX7) (N := 5) (ci := 6) X in_X7 tyX7 tyX7_ok nmX7 rfl 0 (Nat.le_of_ble_eq_true rfl) q907 (fun _ h => h) rfl hL orr lrd rfl rfl (Nat.le_of_ble_eq_true rfl) dX7_number_88 (fun H locs hL h1 h2 => ?_)
                have orr : Ob g rd 6 [.int (nI (k + 1)), .int w, .int sd, .ref ta, .ref o] H := h1
                have art := art.on h2 (Ne.symm n1)
                have oo := oo.on h2 (Ne.symm n2)
                have hbf := hbf.keep (h2.chg (P := fun q => q = rd ∨ q = ta) (Or.inl rfl)) hdj
                have hC := hC.trans (h2.chg (Or.inl rfl))
                refine lv_goto (tgt := 5) hx hb dX7_number_91 (by decide) ?_
                have hj1 := (n_step ht0 ht1 (by rw [← c_7]; exact hinv) (nm_t c_40 c_44 c_55)).1
                exact W.widen (by omega) (by omega) (ih5 (mxI (nI 0) v * nI 10 + (sgI f n k - nI 48)) true (k + 1) (j - 1) (by rw [c_7, if_pos rfl] at hfu; rw [if_pos rfl]; omega) (n_step ht0 ht1 (by rw [← c_7]; exact hinv) (nm_t c_40 c_44 c_55)).2 _ orr art oo hbf hC _ hL ls (lv_sub hl [4, 5, 6, 0, 1] rfl))
  exact W.widen (by omega) (by omega) (L5 4 (-1) true i 2 (by decide) ⟨(if_pos rfl).symm, fun _ => Or.inl ⟨rfl, rfl⟩, hin⟩ _ orr art oo hbf hC _ hL ls (lv_sub hl [2, 3, 4, 1, 0] rfl))
theorem vb_X7_number : VB yX7_number cX7_number 7 (some .int) 2 := ⟨q961, qs14, q130, q962, ⟨by decide, by decide, by decide +kernel⟩⟩
