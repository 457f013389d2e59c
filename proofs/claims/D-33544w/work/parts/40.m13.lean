/-! the model's walks, thirteenth part: follow -/
def folG (f : Nat → Int32) (n : Nat) : Nat → Nat → (Nat → Int32) → Nat → Bool × (Nat → Int32) × Nat
  | 0, _, r, N => (true, r, N)
  | k + 1, i, r, N => if i < n then (if (folR f n i r N).1 then folG f n k ((ptS f n i).2 + 1) (folR f n i r N).2.1 (folR f n i r N).2.2 else (false, (folR f n i r N).2.1, (folR f n i r N).2.2)) else (true, r, N)
theorem folG_end {f : Nat → Int32} {n i : Nat} (h : n ≤ i) (r : Nat → Int32) (N : Nat) : ∀ k, folG f n k i r N = (true, r, N)
  | 0 => rfl
  | k + 1 => if_neg (by omega)
theorem addR_160 (r : Nat → Int32) (n : Nat) (a b c d : Int32) : addR r n a b c d 160 = nI (n + 1) := by unfold addR; rw [upd_n _ _ (by decide), upd_s]
theorem folR_N {f : Nat → Int32} {n i : Nat} {r : Nat → Int32} {N : Nat} (h : r 160 = nI N) (hN : N ≤ 40) : (folR f n i r N).2.1 160 = nI (folR f n i r N).2.2 ∧ (folR f n i r N).2.2 ≤ 40 := by
  unfold folR
  split
  · split
    · refine ⟨?_, by show N + 1 ≤ 40; omega⟩
      dsimp only
      rw [addR_160]
    · exact ⟨h, hN⟩
  · split
    · split
      · exact ⟨h, hN⟩
      · refine ⟨?_, by show N - 1 ≤ 40; omega⟩
        dsimp only
        rw [delR_160]
    · split
      · exact ⟨(upd_n _ _ (by omega)).trans h, hN⟩
      · exact ⟨(upd_n _ _ (by omega)).trans ((upd_n _ _ (by omega)).trans h), hN⟩
theorem fau_inv {f : Nat → Int32} {n q i : Nat} (hn : n ≤ 60) (hi : i ≤ n) (h : (fauG f n (q + 1) i).1 = (-1)) : (ptS f n i).1 = true ∧ ((ptS f n i).2 = n ∨ ((ptS f n i).2 < n ∧ f (ptS f n i).2 = nI 59 ∧ (fauG f n q ((ptS f n i).2 + 1)).1 = (-1))) := by
  have hb := (ptS_b (f := f) hi).2
  unfold fauG at h
  by_cases a : (ptS f n i).1 = true
  · rw [if_pos a] at h
    refine ⟨a, ?_⟩
    by_cases b : (ptS f n i).2 = n
    · exact Or.inl b
    · rw [if_neg b] at h
      by_cases d : (pS f n (ptS f n i).2 59 59).1 = true
      · rw [if_pos d, (pS_t d).1] at h
        exact Or.inr ⟨(pS_t d).2, (see_1.mp d).2, h⟩
      · rw [if_neg d] at h
        have := (pS_b (f := f) (a := 59) (b := 59) hb).2
        exact absurd h (nI_m1 (by omega))
  · rw [if_neg a] at h
    exact absurd h (nI_m1 (by omega))
theorem setI_g {f : Nat → Int32} {n j : Nat} {p : Nat → Int32} (h : n ≤ j) : setI f n p j = f j := by unfold setI; rw [if_neg (by omega)]
def s_follow (S : MS) (N n st : Nat) : Nat × Option Value × MS := if ¬ (fauG (S.1 4) n (n + 1) 0).1 = (-1) then x_ S 1 else if (folG (S.1 4) n (n + 1) 0 (S.1 0) N).1 then (0, vI (nI (folG (S.1 4) n (n + 1) 0 (S.1 0) N).2.2), uS (upR S st (folG (S.1 4) n (n + 1) 0 (S.1 0) N).2.1) 13 (nI 0)) else x_ S 2

theorem ite_end {b : Bool} {R : Nat → Int32} {M : Nat} {w : Bool × (Nat → Int32) × Nat} (h : b = true → w = (true, R, M)) : (if b then w else (false, R, M)) = (b, R, M) := by
  cases b with
  | true => exact (if_pos rfl).trans (h rfl)
  | false => exact if_neg (by decide)

set_option maxRecDepth 100000 in
set_option maxHeartbeats 4000000 in
theorem ct_X5_follow (l : Launch) (g : GT) (o n N st : Nat) (S : MS) (hN : S.1 0 160 = nI N) (hNn : N ≤ 40) (hln : S.2.1 13 = nI n) (hn6 : n ≤ 60) (hst : S.2.1 12 = nI st) (hs6 : st ≤ 6) : Ct l g yX5_follow cX5_follow 4 (some .int) 8 0 0 [.ref o] (MW g o S) (fun r H H1 => ∃ S1, AP S1 (s_follow S N n st) r ∧ MW g o S1 H1 ∧ Off o H H1) := by
  refine Ct.of (by decide) (Nat.le_of_ble_eq_true rfl) ?_
  intro p e s m args below meth c X hP ls hl
  have hx := X.1
  have hb := X.2.1
  have hKV := X.2.2.2.2.2.2.2.1.1
  have hL : ∀ q ∈ ([] : List Loc), gLo g ≤ q.base := fun _ h => by cases h
  have hl : lv_has ls 4 [(0, .ref o)] := hl
  have hW : MW g o S s.heap := hP
  have hO : Off o s.heap s.heap := Off.rfl'
  refine lv_aload_n hx hb dX5_follow_0 rfl (lv_at hl 0 rfl) ?_
  refine lv_aload_n hx hb dX5_follow_1 rfl (lv_at hl 0 rfl) ?_
  refine Ct.callV (ct_X5_fault l g o n S hln (by omega)) X hL hl vb_X5_fault q1983 (hW.2.1.recv hKV rfl) rfl rfl (Nat.le_of_ble_eq_true rfl) dX5_follow_2 ⟨Nat.le_of_ble_eq_true rfl, Nat.le_of_ble_eq_true rfl⟩ (by omega) (by omega) hW (fun r H1 locs hL hp => ?_)
  obtain ⟨j_2, hj_2, hjn_2, rfl, hW, hO1⟩ := hp
  have hO := hO.trans hO1
  have hj_2 : j_2 = (fauG (S.1 4) n (n + 1) 0).2 := hj_2
  have hjn_2 : j_2 ≤ n := hjn_2
  have hW := MW.cast (S1 := uS S 14 (nI j_2)) hW ⟨rfl, rfl, rfl, rfl, rfl, rfl, rfl, rfl, rfl, rfl, rfl, rfl, rfl, rfl, rfl, rfl, rfl⟩
  refine W.stk (w := ((fauG (S.1 4) n (n + 1) 0).1)) rfl ?_
  refine lv_iconst (v := (-1)) hx hb dX5_follow_5 (by decide) ?_
  refine lv_icmp_eq (tgt := 13) hx hb dX5_follow_6 (by decide) (fun c_6 => ?_) (fun c_6 => ?_)
  ·
    refine lv_iconst (v := nI 0) hx hb dX5_follow_13 (by decide) ?_
    refine mp_38 X rfl hL hW dX5_follow_14 (fun H locs hL hW hO1 => ?_)
    have hO := hO.trans hO1
    have hW := MW.cast (S1 := uS (uS S 14 (nI j_2)) 15 (nI 0)) hW ⟨rfl, rfl, rfl, rfl, rfl, rfl, rfl, rfl, rfl, rfl, rfl, rfl, rfl, rfl, rfl, rfl, rfl⟩
    refine lv_aload_n hx hb dX5_follow_17 rfl (lv_at hl 0 rfl) ?_
    refine mg_38 X rfl hW dX5_follow_18 (W.stk (w := (nI 0)) rfl ?_)
    refine n_ifeq (tgt := 26) X dX5_follow_21 (by decide) (by omega) (fun c_21 => ?_) (fun c_21 => ?_)
    ·
      refine lv_iconst (v := nI 0) hx hb dX5_follow_26 (by decide) ?_
      refine lv_istore_n (lv' := [(1, .int _), (0, .ref _)]) hx hb dX5_follow_27 rfl hl (by decide) rfl (fun ls hl => ?_)
      have L28 : ∀ (fuel : Nat) (k : Nat), 179 - k < fuel → (k ≤ 179) → ∀ (H : Heap), MW g o (uS (uS (uA S 1 (setI (S.1 1) k (S.1 0))) 14 (nI j_2)) 15 (nI 0)) H → Off o s.heap H → ∀ (locs : List Loc), (∀ q ∈ locs, gLo g ≤ q.base) → ∀ (ls : Array Slot), lv_has ls 4 [(0, .ref o), (1, .int (nI k))] → W p l e (rmL 8 0 0) s m args below meth c H locs 0 0 (MQ below (Qcg (fun r H H1 => ∃ S1, AP S1 (s_follow S N n st) r ∧ MW g o S1 H1 ∧ Off o H H1)) args s 0 0 (fre g)) (F0 m 28 ls []) := by
        intro fuel
        induction fuel with
        | zero => intro k hfu; exact absurd hfu (Nat.not_lt_zero _)
        | succ fuel ih28 =>
          intro k hfu hk H hW hO locs hL ls hl
          refine lv_iload_n hx hb dX5_follow_28 rfl (lv_at hl 1 rfl) ?_
          refine lv_sipush (v := nI 179) hx hb dX5_follow_29 (by decide) ?_
          refine n_icmp_ge (tgt := 53) X dX5_follow_32 (by decide) (by omega) (by omega) (fun c_32 => ?_) (fun c_32 => ?_)
          ·
            have hW := MW.cast (S1 := uS (uS (uA S 1 (S.1 0)) 14 (nI j_2)) 15 (nI 0)) (MW.low (k := 1) (f1 := S.1 0) hW (by decide) (fun j hj => setI_l (show j < k by have : j < 179 := hj; omega))) ⟨rfl, rfl, rfl, rfl, rfl, rfl, rfl, rfl, rfl, rfl, rfl, rfl, rfl, rfl, rfl, rfl, rfl⟩
            refine lv_aload_n hx hb dX5_follow_53 rfl (lv_at hl 0 rfl) ?_
            refine lv_iconst (v := nI 0) hx hb dX5_follow_54 (by decide) ?_
            refine mp_121 X rfl hL hW dX5_follow_55 (fun H locs hL hW hO1 => ?_)
            have hO := hO.trans hO1
            have hW := MW.cast (S1 := uS (uS (uA S 1 (S.1 0)) 14 (nI 0)) 15 (nI 0)) hW ⟨rfl, rfl, rfl, rfl, rfl, rfl, rfl, rfl, rfl, rfl, rfl, rfl, rfl, rfl, rfl, rfl, rfl⟩
            refine lv_iconst (v := nI 1) hx hb dX5_follow_58 (by decide) ?_
            refine lv_istore_n (lv' := [(1, .int _), (0, .ref _)]) hx hb dX5_follow_59 rfl hl (by decide) rfl (fun ls hl => ?_)
            have C93 : ∀ (b : Bool) (i : Nat) (R : Nat → Int32) (M : Nat), (R 160 = nI M) → (folG (S.1 4) n (n + 1) 0 (S.1 0) N = (b, R, M)) → ∀ (H : Heap), MW g o (uS (uS (uA (uA S 0 R) 1 (S.1 0)) 14 (nI i)) 15 (nI 0)) H → Off o s.heap H → ∀ (locs : List Loc), (∀ q ∈ locs, gLo g ≤ q.base) → ∀ (ls : Array Slot), lv_has ls 4 [(0, .ref o), (1, .int (bI b))] → W p l e (rmL 8 0 0) s m args below meth c H locs 0 0 (MQ below (Qcg (fun r H H1 => ∃ S1, AP S1 (s_follow S N n st) r ∧ MW g o S1 H1 ∧ Off o H H1)) args s 0 0 (fre g)) (F0 m 93 ls []) := by
              intro b i R M hR160 hfin H hW hO locs hL ls hl
              refine lv_iconst (v := nI 0) hx hb dX5_follow_93 (by decide) ?_
              refine lv_istore_n (lv' := [(2, .int _), (0, .ref _), (1, .int _)]) hx hb dX5_follow_94 rfl hl (by decide) rfl (fun ls hl => ?_)
              have L95 : ∀ (fuel : Nat) (k : Nat), 179 - k < fuel → (k ≤ 179) → ∀ (H : Heap), MW g o (uS (uS (uA (uA S 0 (setI R k (S.1 0))) 1 (setI (S.1 0) k R)) 14 (nI i)) 15 (nI 0)) H → Off o s.heap H → ∀ (locs : List Loc), (∀ q ∈ locs, gLo g ≤ q.base) → ∀ (ls : Array Slot), lv_has ls 4 [(0, .ref o), (1, .int (bI b)), (2, .int (nI k))] → W p l e (rmL 8 0 0) s m args below meth c H locs 0 0 (MQ below (Qcg (fun r H H1 => ∃ S1, AP S1 (s_follow S N n st) r ∧ MW g o S1 H1 ∧ Off o H H1)) args s 0 0 (fre g)) (F0 m 95 ls []) := by
                intro fuel
                induction fuel with
                | zero => intro k hfu; exact absurd hfu (Nat.not_lt_zero _)
                | succ fuel ih95 =>
                  intro k hfu hk H hW hO locs hL ls hl
                  refine lv_iload_n hx hb dX5_follow_95 rfl (lv_at hl 2 rfl) ?_
                  refine lv_sipush (v := nI 179) hx hb dX5_follow_96 (by decide) ?_
                  refine n_icmp_ge (tgt := 134) X dX5_follow_99 (by decide) (by omega) (by omega) (fun c_99 => ?_) (fun c_99 => ?_)
                  ·
                    have hW := MW.cast (S1 := uS (uS (uA S 1 (setI (S.1 0) k R)) 14 (nI i)) 15 (nI 0)) (MW.low (k := 0) (f1 := S.1 0) hW (by decide) (fun j hj => setI_l (show j < k by have : j < 179 := hj; omega))) ⟨rfl, rfl, rfl, rfl, rfl, rfl, rfl, rfl, rfl, rfl, rfl, rfl, rfl, rfl, rfl, rfl, rfl⟩
                    have hW := MW.cast (S1 := uS (uS (uA S 1 R) 14 (nI i)) 15 (nI 0)) (MW.low (k := 1) (f1 := R) hW (by decide) (fun j hj => setI_l (show j < k by have : j < 179 := hj; omega))) ⟨rfl, rfl, rfl, rfl, rfl, rfl, rfl, rfl, rfl, rfl, rfl, rfl, rfl, rfl, rfl, rfl, rfl⟩
                    refine lv_iload_n hx hb dX5_follow_134 rfl (lv_at hl 1 rfl) ?_
                    refine b_ifne (tgt := 144) X dX5_follow_135 (by decide) (fun c_135 => ?_) (fun c_135 => ?_)
                    ·
                      refine lv_aload_n hx hb dX5_follow_144 rfl (lv_at hl 0 rfl) ?_
                      refine Ct.callV (ct_X5_record l g o st (uS (uS (uA S 1 R) 14 (nI i)) 15 (nI 0)) hst (by omega)) X hL hl vb_X5_record q1888 (hW.2.1.recv hKV rfl) rfl rfl (Nat.le_of_ble_eq_true rfl) dX5_follow_145 ⟨Nat.le_of_ble_eq_true rfl, Nat.le_of_ble_eq_true rfl⟩ (by omega) (by omega) hW (fun r H1 locs hL hp => ?_)
                      obtain ⟨rfl, hW, hO1⟩ := hp
                      have hO := hO.trans hO1
                      have hW := MW.cast (S1 := uS (uS (uS (uA (uA S 1 R) 2 (recP (S.1 2) (S.1 0) st)) 12 (nI (recN st + 1))) 14 (nI i)) 15 (nI 0)) hW ⟨rfl, rfl, rfl, rfl, rfl, rfl, rfl, rfl, rfl, rfl, rfl, rfl, rfl, rfl, rfl, rfl, rfl⟩
                      refine lv_iconst (v := nI 0) hx hb dX5_follow_148 (by decide) ?_
                      refine lv_istore_n (lv' := [(2, .int _), (0, .ref _), (1, .int _)]) hx hb dX5_follow_149 rfl hl (by decide) rfl (fun ls hl => ?_)
                      have L150 : ∀ (fuel : Nat) (k : Nat), 179 - k < fuel → (k ≤ 179) → ∀ (H : Heap), MW g o (uS (uS (uS (uA (uA (uA S 0 (setI (S.1 0) k R)) 1 R) 2 (recP (S.1 2) (S.1 0) st)) 12 (nI (recN st + 1))) 14 (nI i)) 15 (nI 0)) H → Off o s.heap H → ∀ (locs : List Loc), (∀ q ∈ locs, gLo g ≤ q.base) → ∀ (ls : Array Slot), lv_has ls 4 [(0, .ref o), (1, .int (bI b)), (2, .int (nI k))] → W p l e (rmL 8 0 0) s m args below meth c H locs 0 0 (MQ below (Qcg (fun r H H1 => ∃ S1, AP S1 (s_follow S N n st) r ∧ MW g o S1 H1 ∧ Off o H H1)) args s 0 0 (fre g)) (F0 m 150 ls []) := by
                        intro fuel
                        induction fuel with
                        | zero => intro k hfu; exact absurd hfu (Nat.not_lt_zero _)
                        | succ fuel ih150 =>
                          intro k hfu hk H hW hO locs hL ls hl
                          refine lv_iload_n hx hb dX5_follow_150 rfl (lv_at hl 2 rfl) ?_
                          refine lv_sipush (v := nI 179) hx hb dX5_follow_151 (by decide) ?_
                          refine n_icmp_ge (tgt := 175) X dX5_follow_154 (by decide) (by omega) (by omega) (fun c_154 => ?_) (fun c_154 => ?_)
                          ·
                            have hW := MW.cast (S1 := uS (uS (uS (uA (uA (uA S 0 R) 1 R) 2 (recP (S.1 2) (S.1 0) st)) 12 (nI (recN st + 1))) 14 (nI i)) 15 (nI 0)) (MW.low (k := 0) (f1 := R) hW (by decide) (fun j hj => setI_l (show j < k by have : j < 179 := hj; omega))) ⟨rfl, rfl, rfl, rfl, rfl, rfl, rfl, rfl, rfl, rfl, rfl, rfl, rfl, rfl, rfl, rfl, rfl⟩
                            refine lv_aload_n hx hb dX5_follow_175 rfl (lv_at hl 0 rfl) ?_
                            refine lv_iconst (v := nI 0) hx hb dX5_follow_176 (by decide) ?_
                            refine mp_118 X rfl hL hW dX5_follow_177 (fun H locs hL hW hO1 => ?_)
                            have hO := hO.trans hO1
                            have hW := MW.cast (S1 := uS (uS (uS (uS (uA (uA (uA S 0 R) 1 R) 2 (recP (S.1 2) (S.1 0) st)) 12 (nI (recN st + 1))) 13 (nI 0)) 14 (nI i)) 15 (nI 0)) hW ⟨rfl, rfl, rfl, rfl, rfl, rfl, rfl, rfl, rfl, rfl, rfl, rfl, rfl, rfl, rfl, rfl, rfl⟩
                            refine lv_aload_n hx hb dX5_follow_180 rfl (lv_at hl 0 rfl) ?_
                            refine mg_7 X rfl hW dX5_follow_181 ?_
                            refine lv_sipush (v := nI 160) hx hb dX5_follow_184 (by decide) ?_
                            refine m_ld (v := (nI M)) X hW 0 (by decide) rfl 160 rfl (by decide) (show R 160 = (nI M) from hR160) dX5_follow_187 ?_
                            exact r_iret X hL rfl rfl dX5_follow_188 (by omega) (by omega) ⟨uS (uS (uS (uS (uA (uA (uA S 0 R) 1 R) 2 (recP (S.1 2) (S.1 0) st)) 12 (nI (recN st + 1))) 13 (nI 0)) 14 (nI i)) 15 (nI 0), AP.mk (t := 0) (v := some (.int (nI M))) (X := uS (upR S st R) 13 (nI 0)) (by simp only [s_follow, c_6, hfin, c_135, if_true, if_false, not_true_eq_false, Bool.false_eq_true]; rfl) ⟨rfl, rfl, rfl, rfl, rfl, rfl, rfl, rfl⟩ rfl rfl, hW, hO⟩
                          ·
                            refine lv_aload_n hx hb dX5_follow_157 rfl (lv_at hl 0 rfl) ?_
                            refine mg_7 X rfl hW dX5_follow_158 ?_
                            refine lv_iload_n hx hb dX5_follow_161 rfl (lv_at hl 2 rfl) ?_
                            refine lv_aload_n hx hb dX5_follow_162 rfl (lv_at hl 0 rfl) ?_
                            refine mg_13 X rfl hW dX5_follow_163 ?_
                            refine lv_iload_n hx hb dX5_follow_166 rfl (lv_at hl 2 rfl) ?_
                            refine m_ld (v := (R k)) X hW 1 (by decide) rfl k rfl (by show k < 179; omega) rfl dX5_follow_167 ?_
                            refine m_st X hL hW 0 (by decide) rfl k rfl (by show k < 179; omega) dX5_follow_168 (fun H locs hL hW hO1 => ?_)
                            have hO := hO.trans hO1
                            have hW := MW.cast (S1 := uS (uS (uS (uA (uA (uA S 0 (upd (setI (S.1 0) k R) k (R k))) 1 R) 2 (recP (S.1 2) (S.1 0) st)) 12 (nI (recN st + 1))) 14 (nI i)) 15 (nI 0)) hW ⟨rfl, rfl, rfl, rfl, rfl, rfl, rfl, rfl, rfl, rfl, rfl, rfl, rfl, rfl, rfl, rfl, rfl⟩
                            have hW := MW.eqA (k := 0) (f := upd (setI (S.1 0) k R) k (R k)) (f1 := setI (S.1 0) (k + 1) R) hW (setI_s _ _ _ rfl) rfl (fun h => MW.cast (S1 := uS (uS (uS (uA (uA (uA S 0 (setI (S.1 0) (k + 1) R)) 1 R) 2 (recP (S.1 2) (S.1 0) st)) 12 (nI (recN st + 1))) 14 (nI i)) 15 (nI 0)) h ⟨rfl, rfl, rfl, rfl, rfl, rfl, rfl, rfl, rfl, rfl, rfl, rfl, rfl, rfl, rfl, rfl, rfl⟩)
                            refine lv_iinc (v := nI (k + 1)) (lv' := [(2, .int _), (0, .ref _), (1, .int _)]) hx hb dX5_follow_169 hl (k := 2) rfl (nI_iinc _ 1 rfl) (by decide) rfl (fun ls hl => ?_)
                            refine lv_goto (tgt := 150) hx hb dX5_follow_172 (by decide) ?_
                            exact ih150 _ (by omega) (by omega) _ hW hO _ hL ls (lv_sub hl [1, 2, 0] rfl)
                      exact L150 180 0 (by omega) (by omega) _ (MW.cast hW ⟨(setI_0 (S.1 0) R).symm, rfl, rfl, rfl, rfl, rfl, rfl, rfl, rfl, rfl, rfl, rfl, rfl, rfl, rfl, rfl, rfl⟩) hO _ hL ls (lv_sub hl [1, 2, 0] rfl)
                    ·
                      refine lv_aload_n hx hb dX5_follow_138 rfl (lv_at hl 0 rfl) ?_
                      refine lv_iconst (v := nI 2) hx hb dX5_follow_139 (by decide) ?_
                      refine Ct.callV (ct_X5_fails l g o (uS (uS (uA S 1 R) 14 (nI i)) 15 (nI 0)) (nI 2) ) X hL hl vb_X5_fails q1904 (hW.2.1.recv hKV rfl) rfl rfl (Nat.le_of_ble_eq_true rfl) dX5_follow_140 ⟨Nat.le_of_ble_eq_true rfl, Nat.le_of_ble_eq_true rfl⟩ (by omega) (by omega) hW (fun r H1 locs hL hp => ?_)
                      obtain ⟨rfl, hW, hO1⟩ := hp
                      have hO := hO.trans hO1
                      have hW := MW.cast (S1 := uS (uS (uA S 1 R) 14 (nI i)) 15 (nI 2)) hW ⟨rfl, rfl, rfl, rfl, rfl, rfl, rfl, rfl, rfl, rfl, rfl, rfl, rfl, rfl, rfl, rfl, rfl⟩
                      refine W.stk (w := (nI 0)) rfl ?_
                      exact r_iret X hL rfl rfl dX5_follow_143 (by omega) (by omega) ⟨uS (uS (uA S 1 R) 14 (nI i)) 15 (nI 2), AP.mk (t := 2) (v := some (.int (nI 0))) (X := S) (by simp only [s_follow, c_6, hfin, c_135, if_true, if_false, not_true_eq_false, Bool.false_eq_true]; rfl) ⟨rfl, rfl, rfl, rfl, rfl, rfl, rfl, rfl⟩ rfl rfl, hW, hO⟩
                  ·
                    refine lv_aload_n hx hb dX5_follow_102 rfl (lv_at hl 0 rfl) ?_
                    refine mg_7 X rfl hW dX5_follow_103 ?_
                    refine lv_iload_n hx hb dX5_follow_106 rfl (lv_at hl 2 rfl) ?_
                    refine m_ld (v := (R k)) X hW 0 (by decide) rfl k rfl (by show k < 179; omega) (show (setI R k (S.1 0)) k = (R k) from (setI_g (Nat.le_refl _))) dX5_follow_107 ?_
                    refine lv_istore_n (lv' := [(3, .int _), (0, .ref _), (1, .int _), (2, .int _)]) hx hb dX5_follow_108 rfl hl (by decide) rfl (fun ls hl => ?_)
                    refine lv_aload_n hx hb dX5_follow_109 rfl (lv_at hl 1 rfl) ?_
                    refine mg_7 X rfl hW dX5_follow_110 ?_
                    refine lv_iload_n hx hb dX5_follow_113 rfl (lv_at hl 3 rfl) ?_
                    refine lv_aload_n hx hb dX5_follow_114 rfl (lv_at hl 1 rfl) ?_
                    refine mg_13 X rfl hW dX5_follow_115 ?_
                    refine lv_iload_n hx hb dX5_follow_118 rfl (lv_at hl 3 rfl) ?_
                    refine m_ld (v := (S.1 0 k)) X hW 1 (by decide) rfl k rfl (by show k < 179; omega) (show (setI (S.1 0) k R) k = (S.1 0 k) from (setI_g (Nat.le_refl _))) dX5_follow_119 ?_
                    refine m_st X hL hW 0 (by decide) rfl k rfl (by show k < 179; omega) dX5_follow_120 (fun H locs hL hW hO1 => ?_)
                    have hO := hO.trans hO1
                    have hW := MW.cast (S1 := uS (uS (uA (uA S 0 (upd (setI R k (S.1 0)) k (S.1 0 k))) 1 (setI (S.1 0) k R)) 14 (nI i)) 15 (nI 0)) hW ⟨rfl, rfl, rfl, rfl, rfl, rfl, rfl, rfl, rfl, rfl, rfl, rfl, rfl, rfl, rfl, rfl, rfl⟩
                    have hW := MW.eqA (k := 0) (f := upd (setI R k (S.1 0)) k (S.1 0 k)) (f1 := setI R (k + 1) (S.1 0)) hW (setI_s _ _ _ rfl) rfl (fun h => MW.cast (S1 := uS (uS (uA (uA S 0 (setI R (k + 1) (S.1 0))) 1 (setI (S.1 0) k R)) 14 (nI i)) 15 (nI 0)) h ⟨rfl, rfl, rfl, rfl, rfl, rfl, rfl, rfl, rfl, rfl, rfl, rfl, rfl, rfl, rfl, rfl, rfl⟩)
                    refine lv_aload_n hx hb dX5_follow_121 rfl (lv_at hl 1 rfl) ?_
                    refine mg_13 X rfl hW dX5_follow_122 ?_
                    refine lv_iload_n hx hb dX5_follow_125 rfl (lv_at hl 3 rfl) ?_
                    refine lv_iload_n hx hb dX5_follow_126 rfl (lv_at hl 0 rfl) ?_
                    refine m_st X hL hW 1 (by decide) rfl k rfl (by show k < 179; omega) dX5_follow_127 (fun H locs hL hW hO1 => ?_)
                    have hO := hO.trans hO1
                    have hW := MW.cast (S1 := uS (uS (uA (uA S 0 (setI R (k + 1) (S.1 0))) 1 (upd (setI (S.1 0) k R) k (R k))) 14 (nI i)) 15 (nI 0)) hW ⟨rfl, rfl, rfl, rfl, rfl, rfl, rfl, rfl, rfl, rfl, rfl, rfl, rfl, rfl, rfl, rfl, rfl⟩
                    have hW := MW.eqA (k := 1) (f := upd (setI (S.1 0) k R) k (R k)) (f1 := setI (S.1 0) (k + 1) R) hW (setI_s _ _ _ rfl) rfl (fun h => MW.cast (S1 := uS (uS (uA (uA S 0 (setI R (k + 1) (S.1 0))) 1 (setI (S.1 0) (k + 1) R)) 14 (nI i)) 15 (nI 0)) h ⟨rfl, rfl, rfl, rfl, rfl, rfl, rfl, rfl, rfl, rfl, rfl, rfl, rfl, rfl, rfl, rfl, rfl⟩)
                    refine lv_iinc (v := nI (k + 1)) (lv' := [(2, .int _), (3, .int _), (0, .ref _), (1, .int _)]) hx hb dX5_follow_128 hl (k := 3) rfl (nI_iinc _ 1 rfl) (by decide) rfl (fun ls hl => ?_)
                    refine lv_goto (tgt := 95) hx hb dX5_follow_131 (by decide) ?_
                    exact ih95 _ (by omega) (by omega) _ hW hO _ hL ls (lv_sub hl [2, 3, 0] rfl)
              exact L95 180 0 (by omega) (by omega) _ (MW.cast hW ⟨(setI_0 R (S.1 0)).symm, (setI_0 (S.1 0) R).symm, rfl, rfl, rfl, rfl, rfl, rfl, rfl, rfl, rfl, rfl, rfl, rfl, rfl, rfl, rfl⟩) hO _ hL ls (lv_sub hl [1, 2, 0] rfl)
            have L60 : ∀ (fuel : Nat) (b : Bool) (i : Nat) (R : Nat → Int32) (M z : Nat), z + 1 < fuel → (R 160 = nI M) → (M ≤ 40) → (i ≤ n + 1) → (n < i + z) → (i ≤ n → (fauG (S.1 4) n z i).1 = (-1)) → (folG (S.1 4) n (n + 1) 0 (S.1 0) N = if b then folG (S.1 4) n z i R M else (false, R, M)) → ∀ (H : Heap), MW g o (uS (uS (uA (uA S 0 R) 1 (S.1 0)) 14 (nI i)) 15 (nI 0)) H → Off o s.heap H → ∀ (locs : List Loc), (∀ q ∈ locs, gLo g ≤ q.base) → ∀ (ls : Array Slot), lv_has ls 4 [(0, .ref o), (1, .int (bI b))] → W p l e (rmL 8 0 0) s m args below meth c H locs 0 0 (MQ below (Qcg (fun r H H1 => ∃ S1, AP S1 (s_follow S N n st) r ∧ MW g o S1 H1 ∧ Off o H H1)) args s 0 0 (fre g)) (F0 m 60 ls []) := by
              intro fuel
              induction fuel with
              | zero => intro b i R M z hfu; exact absurd hfu (Nat.not_lt_zero _)
              | succ fuel ih60 =>
                intro b i R M z hfu hR160 hMn hi hzz hwf hspec H hW hO locs hL ls hl
                refine lv_aload_n hx hb dX5_follow_60 rfl (lv_at hl 0 rfl) ?_
                refine mg_121 X rfl hW dX5_follow_61 (W.stk (w := (nI i)) rfl ?_)
                refine lv_aload_n hx hb dX5_follow_64 rfl (lv_at hl 0 rfl) ?_
                refine mg_118 X rfl hW dX5_follow_65 (W.stk (w := (nI n)) hln ?_)
                refine n_icmp_ge (tgt := 93) X dX5_follow_68 (by decide) (by omega) (by omega) (fun c_68 => ?_) (fun c_68 => ?_)
                ·
                  exact C93 b i R M hR160 (hspec.trans (ite_end (fun e => folG_end c_68 R M z))) _ hW hO _ hL ls (lv_sub hl [0, 1] rfl)
                ·
                  refine lv_iload_n hx hb dX5_follow_71 rfl (lv_at hl 1 rfl) ?_
                  refine b_ifeq (tgt := 93) X dX5_follow_72 (by decide) (fun c_72 => ?_) (fun c_72 => ?_)
                  ·
                    exact C93 b i R M hR160 (by rw [hspec, if_neg (by rw [c_72]; decide), c_72]) _ hW hO _ hL ls (lv_sub hl [0, 1] rfl)
                  ·
                    refine lv_aload_n hx hb dX5_follow_75 rfl (lv_at hl 0 rfl) ?_
                    have hz1 : z = (z - 1) + 1 := by omega
                    obtain ⟨hp, hfi⟩ := fau_inv (q := z - 1) hn6 (by omega) (hz1 ▸ hwf (by omega))
                    have hE : endB (S.1 4) n (ptS (S.1 4) n i).2 := hfi.imp id (fun q => ⟨q.1, q.2.1⟩)
                    have hlt := ptS_lt (by omega) hp
                    refine Ct.callV (ct_X5_follows l g o n i M (uS (uS (uA (uA S 0 R) 1 (S.1 0)) 14 (nI i)) 15 (nI 0)) hln rfl hn6 (by omega) hR160 hMn hp hE) X hL hl vb_X5_follows q2015 (hW.2.1.recv hKV rfl) rfl rfl (Nat.le_of_ble_eq_true rfl) dX5_follow_76 ⟨Nat.le_of_ble_eq_true rfl, Nat.le_of_ble_eq_true rfl⟩ (by omega) (by omega) hW (fun r H1 locs hL hp => ?_)
                    obtain ⟨j_76, hj_76, hjn_76, rfl, hW, hO1⟩ := hp
                    have hO := hO.trans hO1
                    have hj_76 : j_76 = (ptS (S.1 4) n i).2 := hj_76
                    have hjn_76 : j_76 ≤ n := hjn_76
                    have hW := MW.cast (S1 := uS (uS (uA (uA S 0 ((folR (S.1 4) n i R M).2.1)) 1 (S.1 0)) 14 (nI j_76)) 15 (nI 0)) hW ⟨rfl, rfl, rfl, rfl, rfl, rfl, rfl, rfl, rfl, rfl, rfl, rfl, rfl, rfl, rfl, rfl, rfl⟩
                    refine W.stk (w := (bI ((folR (S.1 4) n i R M).1))) rfl ?_
                    refine lv_istore_n (lv' := [(1, .int _), (0, .ref _)]) hx hb dX5_follow_79 rfl hl (by decide) rfl (fun ls hl => ?_)
                    refine lv_aload_n hx hb dX5_follow_80 rfl (lv_at hl 1 rfl) ?_
                    refine lv_dup hx hb dX5_follow_81 rfl ?_
                    refine mg_121 X rfl hW dX5_follow_82 (W.stk (w := (nI j_76)) rfl ?_)
                    refine lv_iconst (v := nI 1) hx hb dX5_follow_85 (by decide) ?_
                    refine n_iadd X dX5_follow_86 ?_
                    refine mp_121 X rfl hL hW dX5_follow_87 (fun H locs hL hW hO1 => ?_)
                    have hO := hO.trans hO1
                    have hW := MW.cast (S1 := uS (uS (uA (uA S 0 ((folR (S.1 4) n i R M).2.1)) 1 (S.1 0)) 14 (nI (j_76 + 1))) 15 (nI 0)) hW ⟨rfl, rfl, rfl, rfl, rfl, rfl, rfl, rfl, rfl, rfl, rfl, rfl, rfl, rfl, rfl, rfl, rfl⟩
                    refine lv_goto (tgt := 60) hx hb dX5_follow_90 (by decide) ?_
                    exact ih60 ((folR (S.1 4) n i R M).1) (j_76 + 1) ((folR (S.1 4) n i R M).2.1) ((folR (S.1 4) n i R M).2.2) (z - 1) (by omega) (folR_N hR160 hMn).1 (folR_N hR160 hMn).2 (by omega) (by omega) (fun hle => hfi.elim (fun q => absurd q (by omega)) (fun q => hj_76 ▸ q.2.2)) (by rw [hspec, if_pos c_72, show z = (z - 1) + 1 by omega, folG, if_pos c_68, ← hj_76]; rfl) _ hW hO _ hL ls (lv_sub hl [1, 0] rfl)
            exact L60 (n + 3) true 0 (S.1 0) N (n + 1) (by omega) hN hNn (by omega) (by omega) (fun _ => c_6) (if_pos rfl).symm _ (MW.cast hW ⟨rfl, rfl, rfl, rfl, rfl, rfl, rfl, rfl, rfl, rfl, rfl, rfl, rfl, rfl, rfl, rfl, rfl⟩) hO _ hL ls (lv_sub hl [1, 0] rfl)
          ·
            refine lv_aload_n hx hb dX5_follow_35 rfl (lv_at hl 0 rfl) ?_
            refine mg_13 X rfl hW dX5_follow_36 ?_
            refine lv_iload_n hx hb dX5_follow_39 rfl (lv_at hl 1 rfl) ?_
            refine lv_aload_n hx hb dX5_follow_40 rfl (lv_at hl 0 rfl) ?_
            refine mg_7 X rfl hW dX5_follow_41 ?_
            refine lv_iload_n hx hb dX5_follow_44 rfl (lv_at hl 1 rfl) ?_
            refine m_ld (v := ((S.1 0) k)) X hW 0 (by decide) rfl k rfl (by show k < 179; omega) rfl dX5_follow_45 ?_
            refine m_st X hL hW 1 (by decide) rfl k rfl (by show k < 179; omega) dX5_follow_46 (fun H locs hL hW hO1 => ?_)
            have hO := hO.trans hO1
            have hW := MW.cast (S1 := uS (uS (uA S 1 (upd (setI (S.1 1) k (S.1 0)) k ((S.1 0) k))) 14 (nI j_2)) 15 (nI 0)) hW ⟨rfl, rfl, rfl, rfl, rfl, rfl, rfl, rfl, rfl, rfl, rfl, rfl, rfl, rfl, rfl, rfl, rfl⟩
            have hW := MW.eqA (k := 1) (f := upd (setI (S.1 1) k (S.1 0)) k ((S.1 0) k)) (f1 := setI (S.1 1) (k + 1) (S.1 0)) hW (setI_s _ _ _ rfl) rfl (fun h => MW.cast (S1 := uS (uS (uA S 1 (setI (S.1 1) (k + 1) (S.1 0))) 14 (nI j_2)) 15 (nI 0)) h ⟨rfl, rfl, rfl, rfl, rfl, rfl, rfl, rfl, rfl, rfl, rfl, rfl, rfl, rfl, rfl, rfl, rfl⟩)
            refine lv_iinc (v := nI (k + 1)) (lv' := [(1, .int _), (0, .ref _)]) hx hb dX5_follow_47 hl (k := 1) rfl (nI_iinc _ 1 rfl) (by decide) rfl (fun ls hl => ?_)
            refine lv_goto (tgt := 28) hx hb dX5_follow_50 (by decide) ?_
            exact ih28 _ (by omega) (by omega) _ hW hO _ hL ls (lv_sub hl [1, 0] rfl)
      exact L28 180 0 (by omega) (by omega) _ (MW.cast hW ⟨rfl, (setI_0 (S.1 1) (S.1 0)).symm, rfl, rfl, rfl, rfl, rfl, rfl, rfl, rfl, rfl, rfl, rfl, rfl, rfl, rfl, rfl⟩) hO _ hL ls (lv_sub hl [1, 0] rfl)
    ·
      exact absurd c_21 (by decide)
  ·
    refine lv_iconst (v := nI 1) hx hb dX5_follow_9 (by decide) ?_
    refine lv_goto (tgt := 14) hx hb dX5_follow_10 (by decide) ?_
    refine mp_38 X rfl hL hW dX5_follow_14 (fun H locs hL hW hO1 => ?_)
    have hO := hO.trans hO1
    have hW := MW.cast (S1 := uS (uS S 14 (nI j_2)) 15 (nI 1)) hW ⟨rfl, rfl, rfl, rfl, rfl, rfl, rfl, rfl, rfl, rfl, rfl, rfl, rfl, rfl, rfl, rfl, rfl⟩
    refine lv_aload_n hx hb dX5_follow_17 rfl (lv_at hl 0 rfl) ?_
    refine mg_38 X rfl hW dX5_follow_18 (W.stk (w := (nI 1)) rfl ?_)
    refine n_ifeq (tgt := 26) X dX5_follow_21 (by decide) (by omega) (fun c_21 => ?_) (fun c_21 => ?_)
    ·
      exact absurd c_21 (by decide)
    ·
      refine lv_iconst (v := nI 0) hx hb dX5_follow_24 (by decide) ?_
      exact r_iret X hL rfl rfl dX5_follow_25 (by omega) (by omega) ⟨uS (uS S 14 (nI j_2)) 15 (nI 1), AP.mk (t := 1) (v := some (.int (nI 0))) (X := S) (by simp only [s_follow, c_6, if_true, not_false_eq_true]; rfl) ⟨rfl, rfl, rfl, rfl, rfl, rfl, rfl, rfl⟩ rfl rfl, hW, hO⟩
theorem vb_X5_follow : VB yX5_follow cX5_follow 4 (some .int) 0 := ⟨q2012, q2013, q111, q2014, ⟨by decide, by decide, by decide +kernel⟩⟩
