/-! the model's walks, fourth part -/
theorem agN_le (w f h : Nat → Int32) : agN w f h ≤ 2 := by unfold agN; split <;> (try split) <;> omega
theorem cnt_t' {p : Nat → Bool} {k v : Nat} (hv : v = cnt p k) (h : p k = true) : v + 1 = cnt p (k + 1) := cnt_t hv h

set_option maxRecDepth 100000 in
set_option maxHeartbeats 4000000 in
theorem ct_X5_scored (l : Launch) (g : GT) (o n : Nat) (S : MS) (x : Int32) (hN : S.1 0 160 = nI n) (hn : n ≤ 40) : Ct l g yX5_scored cX5_scored 5 (some .int) 5 0 0 [.ref o, .int x] (MW g o S) (fun r H H1 => r = some (.int (fstI (fun k => cB (S.1 0) k && decide (nI (rnkN (S.1 0) n k) = x)) n)) ∧ H1 = H) := by
  refine Ct.of (by decide) (Nat.le_of_ble_eq_true rfl) ?_
  intro p e s m args below meth c X hP ls hl
  have hx := X.1
  have hb := X.2.1
  have hKV := X.2.2.2.2.2.2.2.1.1
  have hL : ∀ q ∈ ([] : List Loc), gLo g ≤ q.base := fun _ h => by cases h
  have hl : lv_has ls 5 [(0, .ref o), (1, .int x)] := hl
  have hW : MW g o S s.heap := hP
  have hO : Off o s.heap s.heap := Off.rfl'
  refine lv_iconst (v := nI 0) hx hb dX5_scored_0 (by decide) ?_
  refine lv_istore_n (lv' := [(2, .int _), (0, .ref _), (1, .int _)]) hx hb dX5_scored_1 rfl hl (by decide) rfl (fun ls hl => ?_)
  have L2 : ∀ (fuel : Nat) (k : Nat), n - k < fuel → (fstI (fun k => cB (S.1 0) k && decide (nI (rnkN (S.1 0) n k) = x)) k = (-1)) → (k ≤ n) → ∀ (locs : List Loc), (∀ q ∈ locs, gLo g ≤ q.base) → ∀ (ls : Array Slot), lv_has ls 5 [(0, .ref o), (1, .int x), (2, .int (nI k))] → W p l e (rmL 5 0 0) s m args below meth c s.heap locs 0 0 (MQ below (Qcg (fun r H H1 => r = some (.int (fstI (fun k => cB (S.1 0) k && decide (nI (rnkN (S.1 0) n k) = x)) n)) ∧ H1 = H)) args s 0 0 (fre g)) (F0 m 2 ls []) := by
    intro fuel
    induction fuel with
    | zero => intro k hf; exact absurd hf (Nat.not_lt_zero _)
    | succ fuel ih2 =>
      intro k hf h0 hk  locs hL ls hl
      refine lv_iload_n hx hb dX5_scored_2 rfl (lv_at hl 2 rfl) ?_
      refine lv_aload_n hx hb dX5_scored_3 rfl (lv_at hl 0 rfl) ?_
      refine mg_7 X rfl hW dX5_scored_4 ?_
      refine lv_sipush (v := nI 160) hx hb dX5_scored_7 (by decide) ?_
      refine m_ld (v := (nI n)) X hW 0 (by decide) rfl 160 rfl (by decide) (show (S.1 0) 160 = (nI n) from hN) dX5_scored_10 ?_
      refine n_icmp_ge (tgt := 110) X dX5_scored_11 (by decide) (by omega) (by omega) (fun c_11 => ?_) (fun c_11 => ?_)
      ·
        refine lv_iconst (v := (-1)) hx hb dX5_scored_110 (by decide) ?_
        exact r_iret X hL rfl rfl dX5_scored_111 (by omega) (by omega) ⟨v_i (by have e : k = n := (by omega); subst e; exact h0.symm), rfl⟩
      ·
        refine lv_iconst (v := nI 0) hx hb dX5_scored_14 (by decide) ?_
        refine lv_istore_n (lv' := [(3, .int _), (0, .ref _), (1, .int _), (2, .int _)]) hx hb dX5_scored_15 rfl hl (by decide) rfl (fun ls hl => ?_)
        refine lv_iconst (v := nI 0) hx hb dX5_scored_16 (by decide) ?_
        refine lv_istore (lv' := [(4, .int _), (3, .int _), (0, .ref _), (1, .int _), (2, .int _)]) hx hb dX5_scored_17 hl (by decide) rfl (fun ls hl => ?_)
        have L19 : ∀ (fuel : Nat) (v j : Nat), n - j < fuel → (v = cnt (ahB (S.1 0) k) j) → (j ≤ n) → ∀ (locs : List Loc), (∀ q ∈ locs, gLo g ≤ q.base) → ∀ (ls : Array Slot), lv_has ls 5 [(0, .ref o), (1, .int x), (2, .int (nI k)), (3, .int (nI v)), (4, .int (nI j))] → W p l e (rmL 5 0 0) s m args below meth c s.heap locs 0 0 (MQ below (Qcg (fun r H H1 => r = some (.int (fstI (fun k => cB (S.1 0) k && decide (nI (rnkN (S.1 0) n k) = x)) n)) ∧ H1 = H)) args s 0 0 (fre g)) (F0 m 19 ls []) := by
          intro fuel
          induction fuel with
          | zero => intro v j hf; exact absurd hf (Nat.not_lt_zero _)
          | succ fuel ih19 =>
            intro v j hf hv hj  locs hL ls hl
            refine lv_iload hx hb dX5_scored_19 (lv_at hl 4 rfl) ?_
            refine lv_aload_n hx hb dX5_scored_21 rfl (lv_at hl 0 rfl) ?_
            refine mg_7 X rfl hW dX5_scored_22 ?_
            refine lv_sipush (v := nI 160) hx hb dX5_scored_25 (by decide) ?_
            refine m_ld (v := (nI n)) X hW 0 (by decide) rfl 160 rfl (by decide) (show (S.1 0) 160 = (nI n) from hN) dX5_scored_28 ?_
            refine n_icmp_ge (tgt := 89) X dX5_scored_29 (by decide) (by omega) (by omega) (fun c_29 => ?_) (fun c_29 => ?_)
            ·
              refine lv_aload_n hx hb dX5_scored_89 rfl (lv_at hl 0 rfl) ?_
              refine lv_iload_n hx hb dX5_scored_90 rfl (lv_at hl 2 rfl) ?_
              refine Cp.callV (v := .int (bI (cB (S.1 0) k))) (ct_X5_counts l g o k S (by omega)) X hL hl vb_X5_counts q1939 (hW.2.1.recv hKV rfl) rfl rfl (Nat.le_of_ble_eq_true rfl) dX5_scored_91 ⟨Nat.le_of_ble_eq_true rfl, Nat.le_of_ble_eq_true rfl⟩ (by omega) (by omega) hW (fun locs hL => ?_)
              refine b_ifeq (tgt := 104) X dX5_scored_94 (by decide) (fun c_94 => ?_) (fun c_94 => ?_)
              ·
                refine lv_iinc (v := nI (k + 1)) (lv' := [(2, .int _), (0, .ref _), (1, .int _), (3, .int _), (4, .int _)]) hx hb dX5_scored_104 hl (k := 2) rfl (nI_iinc _ 1 rfl) (by decide) rfl (fun ls hl => ?_)
                refine lv_goto (tgt := 2) hx hb dX5_scored_107 (by decide) ?_
                exact ih2 _ (by omega) (fstI_s h0 (by simp only [c_94, Bool.false_and])) (by omega) _ hL ls (lv_sub hl [1, 2, 0] rfl)
              ·
                refine lv_iload_n hx hb dX5_scored_97 rfl (lv_at hl 3 rfl) ?_
                refine lv_iload_n hx hb dX5_scored_98 rfl (lv_at hl 1 rfl) ?_
                refine lv_icmp_ne (tgt := 104) hx hb dX5_scored_99 (by decide) (fun c_99 => ?_) (fun c_99 => ?_)
                ·
                  refine lv_iinc (v := nI (k + 1)) (lv' := [(2, .int _), (0, .ref _), (1, .int _), (3, .int _), (4, .int _)]) hx hb dX5_scored_104 hl (k := 2) rfl (nI_iinc _ 1 rfl) (by decide) rfl (fun ls hl => ?_)
                  refine lv_goto (tgt := 2) hx hb dX5_scored_107 (by decide) ?_
                  exact ih2 _ (by omega) (fstI_s h0 (by have e : j = n := (by omega); subst e; show (_ && decide (nI (cnt _ _) = x)) = false; rw [← hv]; simp [c_99])) (by omega) _ hL ls (lv_sub hl [1, 2, 0] rfl)
                ·
                  refine lv_iload_n hx hb dX5_scored_102 rfl (lv_at hl 2 rfl) ?_
                  exact r_iret X hL rfl rfl dX5_scored_103 (by omega) (by omega) ⟨v_i (fstI_k (by omega) h0 (by have e : j = n := (by omega); subst e; show (_ && decide (nI (cnt _ _) = x)) = true; rw [← hv, c_94]; simpa using c_99) n (by omega)).symm, rfl⟩
            ·
              refine lv_iload_n hx hb dX5_scored_32 rfl (lv_at hl 3 rfl) ?_
              refine lv_aload_n hx hb dX5_scored_33 rfl (lv_at hl 0 rfl) ?_
              refine lv_iload hx hb dX5_scored_34 (lv_at hl 4 rfl) ?_
              refine Cp.callV (v := .int (bI (cB (S.1 0) j))) (ct_X5_counts l g o j S (by omega)) X hL hl vb_X5_counts q1939 (hW.2.1.recv hKV rfl) rfl rfl (Nat.le_of_ble_eq_true rfl) dX5_scored_36 ⟨Nat.le_of_ble_eq_true rfl, Nat.le_of_ble_eq_true rfl⟩ (by omega) (by omega) hW (fun locs hL => ?_)
              refine b_ifeq (tgt := 80) X dX5_scored_39 (by decide) (fun c_39 => ?_) (fun c_39 => ?_)
              ·
                refine lv_iconst (v := nI 0) hx hb dX5_scored_80 (by decide) ?_
                refine n_iadd X dX5_scored_81 ?_
                refine lv_istore_n (lv' := [(3, .int _), (0, .ref _), (1, .int _), (2, .int _), (4, .int _)]) hx hb dX5_scored_82 rfl hl (by decide) rfl (fun ls hl => ?_)
                refine lv_iinc (v := nI (j + 1)) (lv' := [(4, .int _), (3, .int _), (0, .ref _), (1, .int _), (2, .int _)]) hx hb dX5_scored_83 hl (k := 4) rfl (nI_iinc _ 1 rfl) (by decide) rfl (fun ls hl => ?_)
                refine lv_goto (tgt := 19) hx hb dX5_scored_86 (by decide) ?_
                exact ih19 _ _ (by omega) (by first | (refine cnt_t hv ?_; simp [ahB, c_11, c_29, c_39]; done) | (refine cnt_f hv ?_; simp [ahB, c_11, c_29, c_39]; done) | (refine cnt_f hv ?_; simp [ahB, c_11, c_29, c_39, nlt_of_le c_53]; done) | (refine cnt_t hv ?_; simp only [ahB, c_39, Bool.true_and]; have q := c_67; simp at q; simp [q, c_73, nI_refl]; omega)) (by omega) _ hL ls (lv_sub hl [2, 3, 4, 1, 0] rfl)
              ·
                refine lv_aload_n hx hb dX5_scored_42 rfl (lv_at hl 0 rfl) ?_
                refine lv_iload hx hb dX5_scored_43 (lv_at hl 4 rfl) ?_
                refine Cp.callV (v := .int (scoI (S.1 0) j)) (ct_X5_score l g o j S (by omega)) X hL hl vb_X5_score q2232 (hW.2.1.recv hKV rfl) rfl rfl (Nat.le_of_ble_eq_true rfl) dX5_scored_45 ⟨Nat.le_of_ble_eq_true rfl, Nat.le_of_ble_eq_true rfl⟩ (by omega) (by omega) hW (fun locs hL => ?_)
                refine lv_aload_n hx hb dX5_scored_48 rfl (lv_at hl 0 rfl) ?_
                refine lv_iload_n hx hb dX5_scored_49 rfl (lv_at hl 2 rfl) ?_
                refine Cp.callV (v := .int (scoI (S.1 0) k)) (ct_X5_score l g o k S (by omega)) X hL hl vb_X5_score q2232 (hW.2.1.recv hKV rfl) rfl rfl (Nat.le_of_ble_eq_true rfl) dX5_scored_50 ⟨Nat.le_of_ble_eq_true rfl, Nat.le_of_ble_eq_true rfl⟩ (by omega) (by omega) hW (fun locs hL => ?_)
                refine lv_icmp_gt (tgt := 76) hx hb dX5_scored_53 (by decide) (fun c_53 => ?_) (fun c_53 => ?_)
                ·
                  refine lv_iconst (v := nI 1) hx hb dX5_scored_76 (by decide) ?_
                  refine lv_goto (tgt := 81) hx hb dX5_scored_77 (by decide) ?_
                  refine n_iadd X dX5_scored_81 ?_
                  refine lv_istore_n (lv' := [(3, .int _), (0, .ref _), (1, .int _), (2, .int _), (4, .int _)]) hx hb dX5_scored_82 rfl hl (by decide) rfl (fun ls hl => ?_)
                  refine lv_iinc (v := nI (j + 1)) (lv' := [(4, .int _), (3, .int _), (0, .ref _), (1, .int _), (2, .int _)]) hx hb dX5_scored_83 hl (k := 4) rfl (nI_iinc _ 1 rfl) (by decide) rfl (fun ls hl => ?_)
                  refine lv_goto (tgt := 19) hx hb dX5_scored_86 (by decide) ?_
                  exact ih19 _ _ (by omega) (by first | (refine cnt_t hv ?_; simp [ahB, c_11, c_29, c_39, c_53]; done) | (refine cnt_f hv ?_; simp [ahB, c_11, c_29, c_39, c_53]; done) | (refine cnt_f hv ?_; simp [ahB, c_11, c_29, c_39, c_53, nlt_of_le c_53]; done) | (refine cnt_t hv ?_; simp only [ahB, c_39, Bool.true_and]; have q := c_67; simp at q; simp [q, c_73, nI_refl]; omega)) (by omega) _ hL ls (lv_sub hl [2, 3, 4, 1, 0] rfl)
                ·
                  refine lv_aload_n hx hb dX5_scored_56 rfl (lv_at hl 0 rfl) ?_
                  refine lv_iload hx hb dX5_scored_57 (lv_at hl 4 rfl) ?_
                  refine Cp.callV (v := .int (scoI (S.1 0) j)) (ct_X5_score l g o j S (by omega)) X hL hl vb_X5_score q2232 (hW.2.1.recv hKV rfl) rfl rfl (Nat.le_of_ble_eq_true rfl) dX5_scored_59 ⟨Nat.le_of_ble_eq_true rfl, Nat.le_of_ble_eq_true rfl⟩ (by omega) (by omega) hW (fun locs hL => ?_)
                  refine lv_aload_n hx hb dX5_scored_62 rfl (lv_at hl 0 rfl) ?_
                  refine lv_iload_n hx hb dX5_scored_63 rfl (lv_at hl 2 rfl) ?_
                  refine Cp.callV (v := .int (scoI (S.1 0) k)) (ct_X5_score l g o k S (by omega)) X hL hl vb_X5_score q2232 (hW.2.1.recv hKV rfl) rfl rfl (Nat.le_of_ble_eq_true rfl) dX5_scored_64 ⟨Nat.le_of_ble_eq_true rfl, Nat.le_of_ble_eq_true rfl⟩ (by omega) (by omega) hW (fun locs hL => ?_)
                  refine lv_icmp_ne (tgt := 80) hx hb dX5_scored_67 (by decide) (fun c_67 => ?_) (fun c_67 => ?_)
                  ·
                    refine lv_iconst (v := nI 0) hx hb dX5_scored_80 (by decide) ?_
                    refine n_iadd X dX5_scored_81 ?_
                    refine lv_istore_n (lv' := [(3, .int _), (0, .ref _), (1, .int _), (2, .int _), (4, .int _)]) hx hb dX5_scored_82 rfl hl (by decide) rfl (fun ls hl => ?_)
                    refine lv_iinc (v := nI (j + 1)) (lv' := [(4, .int _), (3, .int _), (0, .ref _), (1, .int _), (2, .int _)]) hx hb dX5_scored_83 hl (k := 4) rfl (nI_iinc _ 1 rfl) (by decide) rfl (fun ls hl => ?_)
                    refine lv_goto (tgt := 19) hx hb dX5_scored_86 (by decide) ?_
                    exact ih19 _ _ (by omega) (by first | (refine cnt_t hv ?_; simp [ahB, c_11, c_29, c_39, c_53, c_67]; done) | (refine cnt_f hv ?_; simp [ahB, c_11, c_29, c_39, c_53, c_67]; done) | (refine cnt_f hv ?_; simp [ahB, c_11, c_29, c_39, c_53, c_67, nlt_of_le c_53]; done) | (refine cnt_t hv ?_; simp only [ahB, c_39, Bool.true_and]; have q := c_67; simp at q; simp [q, c_73, nI_refl]; omega)) (by omega) _ hL ls (lv_sub hl [2, 3, 4, 1, 0] rfl)
                  ·
                    refine lv_iload hx hb dX5_scored_70 (lv_at hl 4 rfl) ?_
                    refine lv_iload_n hx hb dX5_scored_72 rfl (lv_at hl 2 rfl) ?_
                    refine n_icmp_ge (tgt := 80) X dX5_scored_73 (by decide) (by omega) (by omega) (fun c_73 => ?_) (fun c_73 => ?_)
                    ·
                      refine lv_iconst (v := nI 0) hx hb dX5_scored_80 (by decide) ?_
                      refine n_iadd X dX5_scored_81 ?_
                      refine lv_istore_n (lv' := [(3, .int _), (0, .ref _), (1, .int _), (2, .int _), (4, .int _)]) hx hb dX5_scored_82 rfl hl (by decide) rfl (fun ls hl => ?_)
                      refine lv_iinc (v := nI (j + 1)) (lv' := [(4, .int _), (3, .int _), (0, .ref _), (1, .int _), (2, .int _)]) hx hb dX5_scored_83 hl (k := 4) rfl (nI_iinc _ 1 rfl) (by decide) rfl (fun ls hl => ?_)
                      refine lv_goto (tgt := 19) hx hb dX5_scored_86 (by decide) ?_
                      exact ih19 _ _ (by omega) (by first | (refine cnt_t hv ?_; simp [ahB, c_11, c_29, c_39, c_53, c_67, c_73]; done) | (refine cnt_f hv ?_; simp [ahB, c_11, c_29, c_39, c_53, c_67, c_73]; done) | (refine cnt_f hv ?_; simp [ahB, c_11, c_29, c_39, c_53, c_67, c_73, nlt_of_le c_53]; done) | (refine cnt_t hv ?_; simp only [ahB, c_39, Bool.true_and]; have q := c_67; simp at q; simp [q, c_73, nI_refl]; omega)) (by omega) _ hL ls (lv_sub hl [2, 3, 4, 1, 0] rfl)
                    ·
                      refine lv_iconst (v := nI 1) hx hb dX5_scored_76 (by decide) ?_
                      refine lv_goto (tgt := 81) hx hb dX5_scored_77 (by decide) ?_
                      refine n_iadd X dX5_scored_81 ?_
                      refine lv_istore_n (lv' := [(3, .int _), (0, .ref _), (1, .int _), (2, .int _), (4, .int _)]) hx hb dX5_scored_82 rfl hl (by decide) rfl (fun ls hl => ?_)
                      refine lv_iinc (v := nI (j + 1)) (lv' := [(4, .int _), (3, .int _), (0, .ref _), (1, .int _), (2, .int _)]) hx hb dX5_scored_83 hl (k := 4) rfl (nI_iinc _ 1 rfl) (by decide) rfl (fun ls hl => ?_)
                      refine lv_goto (tgt := 19) hx hb dX5_scored_86 (by decide) ?_
                      exact ih19 _ _ (by omega) (by first | (refine cnt_t hv ?_; simp [ahB, c_11, c_29, c_39, c_53, c_67, c_73]; done) | (refine cnt_f hv ?_; simp [ahB, c_11, c_29, c_39, c_53, c_67, c_73]; done) | (refine cnt_f hv ?_; simp [ahB, c_11, c_29, c_39, c_53, c_67, c_73, nlt_of_le c_53]; done) | (refine cnt_t hv ?_; simp only [ahB, c_39, Bool.true_and]; have q := c_67; simp at q; simp [q, c_73, nI_refl]; omega)) (by omega) _ hL ls (lv_sub hl [2, 3, 4, 1, 0] rfl)
        exact L19 (n + 1) 0 0 (by omega) rfl (by omega) _ hL ls (lv_sub hl [2, 3, 4, 1, 0] rfl)
  exact L2 (n + 1) 0 (by omega) rfl (by omega) _ hL ls (lv_sub hl [1, 2, 0] rfl)
theorem vb_X5_scored : VB yX5_scored cX5_scored 5 (some .int) 1 := ⟨q2242, qs92, q111, q2243, ⟨by decide, by decide, by decide +kernel⟩⟩

set_option maxRecDepth 100000 in
set_option maxHeartbeats 4000000 in
theorem ct_X5_reached (l : Launch) (g : GT) (o n a b : Nat) (S : MS) (hN : S.1 0 160 = nI n) (hn : n ≤ 40) (ha : a < 4) (hb4 : b < 4) : Ct l g yX5_reached cX5_reached 7 (some .int) 5 0 0 [.ref o, .int (nI a), .int (nI b)] (MW g o S) (fun r H H1 => r = some (.int (reaI (S.1 0) n a b 100)) ∧ H1 = H) := by
  refine Ct.of (by decide) (Nat.le_of_ble_eq_true rfl) ?_
  intro p e s m args below meth c X hP ls hl
  have hx := X.1
  have hb := X.2.1
  have hKV := X.2.2.2.2.2.2.2.1.1
  have hL : ∀ q ∈ ([] : List Loc), gLo g ≤ q.base := fun _ h => by cases h
  have hl : lv_has ls 7 [(0, .ref o), (1, .int (nI a)), (2, .int (nI b))] := hl
  have hW : MW g o S s.heap := hP
  have hO : Off o s.heap s.heap := Off.rfl'
  refine lv_iconst (v := nI 0) hx hb dX5_reached_0 (by decide) ?_
  refine lv_istore_n (lv' := [(3, .int _), (0, .ref _), (1, .int _), (2, .int _)]) hx hb dX5_reached_1 rfl hl (by decide) rfl (fun ls hl => ?_)
  refine lv_iconst (v := nI 0) hx hb dX5_reached_2 (by decide) ?_
  refine lv_istore (lv' := [(4, .int _), (3, .int _), (0, .ref _), (1, .int _), (2, .int _)]) hx hb dX5_reached_3 hl (by decide) rfl (fun ls hl => ?_)
  have L5 : ∀ (fuel : Nat) (v : Int32) (x : Nat), 100 - x < fuel → (v = reaI (S.1 0) n a b x) → (x ≤ 100) → ∀ (locs : List Loc), (∀ q ∈ locs, gLo g ≤ q.base) → ∀ (ls : Array Slot), lv_has ls 7 [(0, .ref o), (1, .int (nI a)), (2, .int (nI b)), (3, .int v), (4, .int (nI x))] → W p l e (rmL 5 0 0) s m args below meth c s.heap locs 0 0 (MQ below (Qcg (fun r H H1 => r = some (.int (reaI (S.1 0) n a b 100)) ∧ H1 = H)) args s 0 0 (fre g)) (F0 m 5 ls []) := by
    intro fuel
    induction fuel with
    | zero => intro v x hf; exact absurd hf (Nat.not_lt_zero _)
    | succ fuel ih5 =>
      intro v x hf hv hx1  locs hL ls hl
      refine lv_iload hx hb dX5_reached_5 (lv_at hl 4 rfl) ?_
      refine lv_bipush (v := nI 100) hx hb dX5_reached_7 (by decide) ?_
      refine n_icmp_ge (tgt := 97) X dX5_reached_9 (by decide) (by omega) (by omega) (fun c_9 => ?_) (fun c_9 => ?_)
      ·
        refine lv_iload_n hx hb dX5_reached_97 rfl (lv_at hl 3 rfl) ?_
        exact r_iret X hL rfl rfl dX5_reached_98 (by omega) (by omega) ⟨v_i (by rw [hv, show x = 100 by omega]), rfl⟩
      ·
        refine lv_iconst (v := (-1)) hx hb dX5_reached_12 (by decide) ?_
        refine lv_istore (lv' := [(5, .int _), (0, .ref _), (1, .int _), (2, .int _), (3, .int _), (4, .int _)]) hx hb dX5_reached_13 hl (by decide) rfl (fun ls hl => ?_)
        refine lv_iconst (v := nI 0) hx hb dX5_reached_15 (by decide) ?_
        refine lv_istore (lv' := [(6, .int _), (5, .int _), (0, .ref _), (1, .int _), (2, .int _), (3, .int _), (4, .int _)]) hx hb dX5_reached_16 hl (by decide) rfl (fun ls hl => ?_)
        have L18 : ∀ (fuel : Nat) (t : Int32) (k : Nat), n - k < fuel → (t = bestI (S.1 0) a b (nI x) k) → (k ≤ n) → ∀ (locs : List Loc), (∀ q ∈ locs, gLo g ≤ q.base) → ∀ (ls : Array Slot), lv_has ls 7 [(0, .ref o), (1, .int (nI a)), (2, .int (nI b)), (3, .int v), (4, .int (nI x)), (5, .int t), (6, .int (nI k))] → W p l e (rmL 5 0 0) s m args below meth c s.heap locs 0 0 (MQ below (Qcg (fun r H H1 => r = some (.int (reaI (S.1 0) n a b 100)) ∧ H1 = H)) args s 0 0 (fre g)) (F0 m 18 ls []) := by
          intro fuel
          induction fuel with
          | zero => intro t k hf; exact absurd hf (Nat.not_lt_zero _)
          | succ fuel ih18 =>
            intro t k hf ht hk  locs hL ls hl
            refine lv_iload hx hb dX5_reached_18 (lv_at hl 6 rfl) ?_
            refine lv_aload_n hx hb dX5_reached_20 rfl (lv_at hl 0 rfl) ?_
            refine mg_7 X rfl hW dX5_reached_21 ?_
            refine lv_sipush (v := nI 160) hx hb dX5_reached_24 (by decide) ?_
            refine m_ld (v := (nI n)) X hW 0 (by decide) rfl 160 rfl (by decide) (show (S.1 0) 160 = (nI n) from hN) dX5_reached_27 ?_
            refine n_icmp_ge (tgt := 84) X dX5_reached_28 (by decide) (by omega) (by omega) (fun c_28 => ?_) (fun c_28 => ?_)
            ·
              refine lv_iload_n hx hb dX5_reached_84 rfl (lv_at hl 3 rfl) ?_
              refine lv_iload hx hb dX5_reached_85 (lv_at hl 5 rfl) ?_
              refine lv_iconst (v := nI 1) hx hb dX5_reached_87 (by decide) ?_
              refine lv_iadd hx hb dX5_reached_88 ?_
              refine lv_iadd hx hb dX5_reached_89 ?_
              refine lv_istore_n (lv' := [(3, .int _), (0, .ref _), (1, .int _), (2, .int _), (4, .int _), (5, .int _), (6, .int _)]) hx hb dX5_reached_90 rfl hl (by decide) rfl (fun ls hl => ?_)
              refine lv_iinc (v := nI (x + 1)) (lv' := [(4, .int _), (3, .int _), (0, .ref _), (1, .int _), (2, .int _), (5, .int _), (6, .int _)]) hx hb dX5_reached_91 hl (k := 4) rfl (nI_iinc _ 1 rfl) (by decide) rfl (fun ls hl => ?_)
              refine lv_goto (tgt := 5) hx hb dX5_reached_94 (by decide) ?_
              exact ih5 _ _ (by omega) (by have e : k = n := (by omega); subst e; rw [hv, ht]; rfl) (by omega) _ hL ls (lv_sub hl [2, 3, 4, 1, 0] rfl)
            ·
              refine lv_aload_n hx hb dX5_reached_31 rfl (lv_at hl 0 rfl) ?_
              refine lv_iload hx hb dX5_reached_32 (lv_at hl 6 rfl) ?_
              refine Cp.callV (v := .int (bI (cB (S.1 0) k))) (ct_X5_counts l g o k S (by omega)) X hL hl vb_X5_counts q1939 (hW.2.1.recv hKV rfl) rfl rfl (Nat.le_of_ble_eq_true rfl) dX5_reached_34 ⟨Nat.le_of_ble_eq_true rfl, Nat.le_of_ble_eq_true rfl⟩ (by omega) (by omega) hW (fun locs hL => ?_)
              refine b_ifeq (tgt := 74) X dX5_reached_37 (by decide) (fun c_37 => ?_) (fun c_37 => ?_)
              ·
                refine lv_iload hx hb dX5_reached_74 (lv_at hl 5 rfl) ?_
                refine lv_istore (lv' := [(5, .int _), (0, .ref _), (1, .int _), (2, .int _), (3, .int _), (4, .int _), (6, .int _)]) hx hb dX5_reached_76 hl (by decide) rfl (fun ls hl => ?_)
                refine lv_iinc (v := nI (k + 1)) (lv' := [(6, .int _), (5, .int _), (0, .ref _), (1, .int _), (2, .int _), (3, .int _), (4, .int _)]) hx hb dX5_reached_78 hl (k := 6) rfl (nI_iinc _ 1 rfl) (by decide) rfl (fun ls hl => ?_)
                refine lv_goto (tgt := 18) hx hb dX5_reached_81 (by decide) ?_
                exact ih18 _ _ (by omega) (by subst ht; simp [bestI, c_37]) (by omega) _ hL ls (lv_sub hl [2, 3, 4, 5, 6, 1, 0] rfl)
              ·
                refine lv_aload_n hx hb dX5_reached_40 rfl (lv_at hl 0 rfl) ?_
                refine lv_iload hx hb dX5_reached_41 (lv_at hl 6 rfl) ?_
                refine lv_iload_n hx hb dX5_reached_43 rfl (lv_at hl 1 rfl) ?_
                refine Cp.callV (v := .int (goodI (mw (S.1 0)) (mv (S.1 0) k) a)) (ct_X5_good l g o k a S (by omega) (by omega)) X hL hl vb_X5_good q1951 (hW.2.1.recv hKV rfl) rfl rfl (Nat.le_of_ble_eq_true rfl) dX5_reached_44 ⟨Nat.le_of_ble_eq_true rfl, Nat.le_of_ble_eq_true rfl⟩ (by omega) (by omega) hW (fun locs hL => ?_)
                refine lv_iload hx hb dX5_reached_47 (lv_at hl 4 rfl) ?_
                refine lv_icmp_lt (tgt := 74) hx hb dX5_reached_49 (by decide) (fun c_49 => ?_) (fun c_49 => ?_)
                ·
                  refine lv_iload hx hb dX5_reached_74 (lv_at hl 5 rfl) ?_
                  refine lv_istore (lv' := [(5, .int _), (0, .ref _), (1, .int _), (2, .int _), (3, .int _), (4, .int _), (6, .int _)]) hx hb dX5_reached_76 hl (by decide) rfl (fun ls hl => ?_)
                  refine lv_iinc (v := nI (k + 1)) (lv' := [(6, .int _), (5, .int _), (0, .ref _), (1, .int _), (2, .int _), (3, .int _), (4, .int _)]) hx hb dX5_reached_78 hl (k := 6) rfl (nI_iinc _ 1 rfl) (by decide) rfl (fun ls hl => ?_)
                  refine lv_goto (tgt := 18) hx hb dX5_reached_81 (by decide) ?_
                  exact ih18 _ _ (by omega) (by subst ht; simp [bestI, c_37, nle_of_lt c_49]) (by omega) _ hL ls (lv_sub hl [2, 3, 4, 5, 6, 1, 0] rfl)
                ·
                  refine lv_aload_n hx hb dX5_reached_52 rfl (lv_at hl 0 rfl) ?_
                  refine lv_iload hx hb dX5_reached_53 (lv_at hl 6 rfl) ?_
                  refine lv_iload_n hx hb dX5_reached_55 rfl (lv_at hl 2 rfl) ?_
                  refine Cp.callV (v := .int (goodI (mw (S.1 0)) (mv (S.1 0) k) b)) (ct_X5_good l g o k b S (by omega) (by omega)) X hL hl vb_X5_good q1951 (hW.2.1.recv hKV rfl) rfl rfl (Nat.le_of_ble_eq_true rfl) dX5_reached_56 ⟨Nat.le_of_ble_eq_true rfl, Nat.le_of_ble_eq_true rfl⟩ (by omega) (by omega) hW (fun locs hL => ?_)
                  refine lv_iload hx hb dX5_reached_59 (lv_at hl 5 rfl) ?_
                  refine lv_icmp_le (tgt := 74) hx hb dX5_reached_61 (by decide) (fun c_61 => ?_) (fun c_61 => ?_)
                  ·
                    refine lv_iload hx hb dX5_reached_74 (lv_at hl 5 rfl) ?_
                    refine lv_istore (lv' := [(5, .int _), (0, .ref _), (1, .int _), (2, .int _), (3, .int _), (4, .int _), (6, .int _)]) hx hb dX5_reached_76 hl (by decide) rfl (fun ls hl => ?_)
                    refine lv_iinc (v := nI (k + 1)) (lv' := [(6, .int _), (5, .int _), (0, .ref _), (1, .int _), (2, .int _), (3, .int _), (4, .int _)]) hx hb dX5_reached_78 hl (k := 6) rfl (nI_iinc _ 1 rfl) (by decide) rfl (fun ls hl => ?_)
                    refine lv_goto (tgt := 18) hx hb dX5_reached_81 (by decide) ?_
                    exact ih18 _ _ (by omega) (by subst ht; simp [bestI, c_37, nlt_of_le c_61]) (by omega) _ hL ls (lv_sub hl [2, 3, 4, 5, 6, 1, 0] rfl)
                  ·
                    refine lv_aload_n hx hb dX5_reached_64 rfl (lv_at hl 0 rfl) ?_
                    refine lv_iload hx hb dX5_reached_65 (lv_at hl 6 rfl) ?_
                    refine lv_iload_n hx hb dX5_reached_67 rfl (lv_at hl 2 rfl) ?_
                    refine Cp.callV (v := .int (goodI (mw (S.1 0)) (mv (S.1 0) k) b)) (ct_X5_good l g o k b S (by omega) (by omega)) X hL hl vb_X5_good q1951 (hW.2.1.recv hKV rfl) rfl rfl (Nat.le_of_ble_eq_true rfl) dX5_reached_68 ⟨Nat.le_of_ble_eq_true rfl, Nat.le_of_ble_eq_true rfl⟩ (by omega) (by omega) hW (fun locs hL => ?_)
                    refine lv_goto (tgt := 76) hx hb dX5_reached_71 (by decide) ?_
                    refine lv_istore (lv' := [(5, .int _), (0, .ref _), (1, .int _), (2, .int _), (3, .int _), (4, .int _), (6, .int _)]) hx hb dX5_reached_76 hl (by decide) rfl (fun ls hl => ?_)
                    refine lv_iinc (v := nI (k + 1)) (lv' := [(6, .int _), (5, .int _), (0, .ref _), (1, .int _), (2, .int _), (3, .int _), (4, .int _)]) hx hb dX5_reached_78 hl (k := 6) rfl (nI_iinc _ 1 rfl) (by decide) rfl (fun ls hl => ?_)
                    refine lv_goto (tgt := 18) hx hb dX5_reached_81 (by decide) ?_
                    exact ih18 _ _ (by omega) (by subst ht; simp [bestI, c_37, le_of_nlt c_49, lt_of_nle c_61]) (by omega) _ hL ls (lv_sub hl [2, 3, 4, 5, 6, 1, 0] rfl)
        exact L18 (n + 1) (-1) 0 (by omega) rfl (by omega) _ hL ls (lv_sub hl [2, 3, 4, 5, 6, 1, 0] rfl)
  exact L5 101 (nI 0) 0 (by omega) rfl (by omega) _ hL ls (lv_sub hl [2, 3, 4, 1, 0] rfl)
theorem vb_X5_reached : VB yX5_reached cX5_reached 7 (some .int) 2 := ⟨q2250, qs93, q111, q2251, ⟨by decide, by decide, by decide +kernel⟩⟩

set_option maxRecDepth 100000 in
set_option maxHeartbeats 4000000 in
theorem ct_X5_isWeaklyBeaten (l : Launch) (g : GT) (o n i : Nat) (S : MS) (t : Int32) (hN : S.1 0 160 = nI n) (hn : n ≤ 40) (hi : i < 40) : Ct l g yX5_isWeaklyBeaten cX5_isWeaklyBeaten 5 (some .boolean) 5 0 0 [.ref o, .int (nI i), .int t] (MW g o S) (fun r H H1 => r = some (.int (bI (anyB (wbB (S.1 0) t i) n))) ∧ H1 = H) := by
  refine Ct.of (by decide) (Nat.le_of_ble_eq_true rfl) ?_
  intro p e s m args below meth c X hP ls hl
  have hx := X.1
  have hb := X.2.1
  have hKV := X.2.2.2.2.2.2.2.1.1
  have hL : ∀ q ∈ ([] : List Loc), gLo g ≤ q.base := fun _ h => by cases h
  have hl : lv_has ls 5 [(0, .ref o), (1, .int (nI i)), (2, .int t)] := hl
  have hW : MW g o S s.heap := hP
  have hO : Off o s.heap s.heap := Off.rfl'
  refine lv_iconst (v := nI 0) hx hb dX5_isWeaklyBeaten_0 (by decide) ?_
  refine lv_istore_n (lv' := [(3, .int _), (0, .ref _), (1, .int _), (2, .int _)]) hx hb dX5_isWeaklyBeaten_1 rfl hl (by decide) rfl (fun ls hl => ?_)
  refine lv_iconst (v := nI 0) hx hb dX5_isWeaklyBeaten_2 (by decide) ?_
  refine lv_istore (lv' := [(4, .int _), (3, .int _), (0, .ref _), (1, .int _), (2, .int _)]) hx hb dX5_isWeaklyBeaten_3 hl (by decide) rfl (fun ls hl => ?_)
  have L5 : ∀ (fuel : Nat) (v q : Nat), 4 - q < fuel → (v = cnt (matB (mw (S.1 0))) q) → (q ≤ 4) → ∀ (locs : List Loc), (∀ q ∈ locs, gLo g ≤ q.base) → ∀ (ls : Array Slot), lv_has ls 5 [(0, .ref o), (1, .int (nI i)), (2, .int t), (3, .int (nI v)), (4, .int (nI q))] → W p l e (rmL 5 0 0) s m args below meth c s.heap locs 0 0 (MQ below (Qcg (fun r H H1 => r = some (.int (bI (anyB (wbB (S.1 0) t i) n))) ∧ H1 = H)) args s 0 0 (fre g)) (F0 m 5 ls []) := by
    intro fuel
    induction fuel with
    | zero => intro v q hf; exact absurd hf (Nat.not_lt_zero _)
    | succ fuel ih5 =>
      intro v q hf hv hq  locs hL ls hl
      refine lv_iload hx hb dX5_isWeaklyBeaten_5 (lv_at hl 4 rfl) ?_
      refine lv_iconst (v := nI 4) hx hb dX5_isWeaklyBeaten_7 (by decide) ?_
      refine n_icmp_ge (tgt := 34) X dX5_isWeaklyBeaten_8 (by decide) (by omega) (by omega) (fun c_8 => ?_) (fun c_8 => ?_)
      ·
        have hq4 : q = 4 := by omega
        subst hq4
        refine lv_iconst (v := nI 0) hx hb dX5_isWeaklyBeaten_34 (by decide) ?_
        refine lv_istore (lv' := [(4, .int _), (0, .ref _), (1, .int _), (2, .int _), (3, .int _)]) hx hb dX5_isWeaklyBeaten_35 hl (by decide) rfl (fun ls hl => ?_)
        have L37 : ∀ (fuel : Nat) (k : Nat), n - k < fuel → (allB (fun k => !wbB (S.1 0) t i k) k = true) → (k ≤ n) → ∀ (locs : List Loc), (∀ q ∈ locs, gLo g ≤ q.base) → ∀ (ls : Array Slot), lv_has ls 5 [(0, .ref o), (1, .int (nI i)), (2, .int t), (3, .int (nI v)), (4, .int (nI k))] → W p l e (rmL 5 0 0) s m args below meth c s.heap locs 0 0 (MQ below (Qcg (fun r H H1 => r = some (.int (bI (anyB (wbB (S.1 0) t i) n))) ∧ H1 = H)) args s 0 0 (fre g)) (F0 m 37 ls []) := by
          intro fuel
          induction fuel with
          | zero => intro k hf; exact absurd hf (Nat.not_lt_zero _)
          | succ fuel ih37 =>
            intro k hf hz hk  locs hL ls hl
            refine lv_iload hx hb dX5_isWeaklyBeaten_37 (lv_at hl 4 rfl) ?_
            refine lv_aload_n hx hb dX5_isWeaklyBeaten_39 rfl (lv_at hl 0 rfl) ?_
            refine mg_7 X rfl hW dX5_isWeaklyBeaten_40 ?_
            refine lv_sipush (v := nI 160) hx hb dX5_isWeaklyBeaten_43 (by decide) ?_
            refine m_ld (v := (nI n)) X hW 0 (by decide) rfl 160 rfl (by decide) (show (S.1 0) 160 = (nI n) from hN) dX5_isWeaklyBeaten_46 ?_
            refine n_icmp_ge (tgt := 104) X dX5_isWeaklyBeaten_47 (by decide) (by omega) (by omega) (fun c_47 => ?_) (fun c_47 => ?_)
            ·
              refine lv_iconst (v := nI 0) hx hb dX5_isWeaklyBeaten_104 (by decide) ?_
              exact r_iret X hL rfl rfl dX5_isWeaklyBeaten_105 (by omega) (by omega) ⟨v_f (by have e : k = n := (by omega); subst e; unfold anyB; rw [hz]; rfl), rfl⟩
            ·
              refine lv_iload hx hb dX5_isWeaklyBeaten_50 (lv_at hl 4 rfl) ?_
              refine lv_iload_n hx hb dX5_isWeaklyBeaten_52 rfl (lv_at hl 1 rfl) ?_
              refine n_icmp_eq (tgt := 98) X dX5_isWeaklyBeaten_53 (by decide) (by omega) (by omega) (fun c_53 => ?_) (fun c_53 => ?_)
              ·
                refine lv_iinc (v := nI (k + 1)) (lv' := [(4, .int _), (0, .ref _), (1, .int _), (2, .int _), (3, .int _)]) hx hb dX5_isWeaklyBeaten_98 hl (k := 4) rfl (nI_iinc _ 1 rfl) (by decide) rfl (fun ls hl => ?_)
                refine lv_goto (tgt := 37) hx hb dX5_isWeaklyBeaten_101 (by decide) ?_
                exact ih37 _ (by omega) (allB_s hz (by simp [wbB, c_53])) (by omega) _ hL ls (lv_sub hl [1, 2, 3, 4, 0] rfl)
              ·
                refine lv_aload_n hx hb dX5_isWeaklyBeaten_56 rfl (lv_at hl 0 rfl) ?_
                refine lv_iload hx hb dX5_isWeaklyBeaten_57 (lv_at hl 4 rfl) ?_
                refine Cp.callV (v := .int (bI (cB (S.1 0) k))) (ct_X5_counts l g o k S (by omega)) X hL hl vb_X5_counts q1939 (hW.2.1.recv hKV rfl) rfl rfl (Nat.le_of_ble_eq_true rfl) dX5_isWeaklyBeaten_59 ⟨Nat.le_of_ble_eq_true rfl, Nat.le_of_ble_eq_true rfl⟩ (by omega) (by omega) hW (fun locs hL => ?_)
                refine b_ifeq (tgt := 98) X dX5_isWeaklyBeaten_62 (by decide) (fun c_62 => ?_) (fun c_62 => ?_)
                ·
                  refine lv_iinc (v := nI (k + 1)) (lv' := [(4, .int _), (0, .ref _), (1, .int _), (2, .int _), (3, .int _)]) hx hb dX5_isWeaklyBeaten_98 hl (k := 4) rfl (nI_iinc _ 1 rfl) (by decide) rfl (fun ls hl => ?_)
                  refine lv_goto (tgt := 37) hx hb dX5_isWeaklyBeaten_101 (by decide) ?_
                  exact ih37 _ (by omega) (allB_s hz (by simp [wbB, c_62])) (by omega) _ hL ls (lv_sub hl [1, 2, 3, 4, 0] rfl)
                ·
                  refine lv_iload_n hx hb dX5_isWeaklyBeaten_65 rfl (lv_at hl 3 rfl) ?_
                  refine lv_aload_n hx hb dX5_isWeaklyBeaten_66 rfl (lv_at hl 0 rfl) ?_
                  refine lv_iload_n hx hb dX5_isWeaklyBeaten_67 rfl (lv_at hl 1 rfl) ?_
                  refine lv_iload hx hb dX5_isWeaklyBeaten_68 (lv_at hl 4 rfl) ?_
                  refine lv_aload_n hx hb dX5_isWeaklyBeaten_70 rfl (lv_at hl 0 rfl) ?_
                  refine Cp.callV (v := .int (matI (mw (S.1 0)))) (ct_X5_mattering l g o S ) X hL hl vb_X5_mattering q1927 (hW.2.1.recv hKV rfl) rfl rfl (Nat.le_of_ble_eq_true rfl) dX5_isWeaklyBeaten_71 ⟨Nat.le_of_ble_eq_true rfl, Nat.le_of_ble_eq_true rfl⟩ (by omega) (by omega) hW (fun locs hL => ?_)
                  refine Cp.callV (v := .int (nI (betN (mw (S.1 0)) (mv (S.1 0) i) (mv (S.1 0) k) (hasB (matI (mw (S.1 0))))))) (ct_X5_better l g o i k S (matI (mw (S.1 0))) (by omega) (by omega)) X hL hl vb_X5_better q1947 (hW.2.1.recv hKV rfl) rfl rfl (Nat.le_of_ble_eq_true rfl) dX5_isWeaklyBeaten_74 ⟨Nat.le_of_ble_eq_true rfl, Nat.le_of_ble_eq_true rfl⟩ (by omega) (by omega) hW (fun locs hL => ?_)
                  refine lv_isub hx hb dX5_isWeaklyBeaten_77 ?_
                  refine lv_iload_n hx hb dX5_isWeaklyBeaten_78 rfl (lv_at hl 2 rfl) ?_
                  refine lv_icmp_lt (tgt := 98) hx hb dX5_isWeaklyBeaten_79 (by decide) (fun c_79 => ?_) (fun c_79 => ?_)
                  ·
                    refine lv_iinc (v := nI (k + 1)) (lv' := [(4, .int _), (0, .ref _), (1, .int _), (2, .int _), (3, .int _)]) hx hb dX5_isWeaklyBeaten_98 hl (k := 4) rfl (nI_iinc _ 1 rfl) (by decide) rfl (fun ls hl => ?_)
                    refine lv_goto (tgt := 37) hx hb dX5_isWeaklyBeaten_101 (by decide) ?_
                    exact ih37 _ (by omega) (allB_s hz (by rw [hv] at c_79; simp [wbB, nle_of_lt c_79])) (by omega) _ hL ls (lv_sub hl [1, 2, 3, 4, 0] rfl)
                  ·
                    refine lv_aload_n hx hb dX5_isWeaklyBeaten_82 rfl (lv_at hl 0 rfl) ?_
                    refine lv_iload hx hb dX5_isWeaklyBeaten_83 (lv_at hl 4 rfl) ?_
                    refine lv_iload_n hx hb dX5_isWeaklyBeaten_85 rfl (lv_at hl 1 rfl) ?_
                    refine lv_aload_n hx hb dX5_isWeaklyBeaten_86 rfl (lv_at hl 0 rfl) ?_
                    refine Cp.callV (v := .int (matI (mw (S.1 0)))) (ct_X5_mattering l g o S ) X hL hl vb_X5_mattering q1927 (hW.2.1.recv hKV rfl) rfl rfl (Nat.le_of_ble_eq_true rfl) dX5_isWeaklyBeaten_87 ⟨Nat.le_of_ble_eq_true rfl, Nat.le_of_ble_eq_true rfl⟩ (by omega) (by omega) hW (fun locs hL => ?_)
                    refine Cp.callV (v := .int (nI (betN (mw (S.1 0)) (mv (S.1 0) k) (mv (S.1 0) i) (hasB (matI (mw (S.1 0))))))) (ct_X5_better l g o k i S (matI (mw (S.1 0))) (by omega) (by omega)) X hL hl vb_X5_better q1947 (hW.2.1.recv hKV rfl) rfl rfl (Nat.le_of_ble_eq_true rfl) dX5_isWeaklyBeaten_90 ⟨Nat.le_of_ble_eq_true rfl, Nat.le_of_ble_eq_true rfl⟩ (by omega) (by omega) hW (fun locs hL => ?_)
                    have hb1 := betN_le (mw (S.1 0)) (mv (S.1 0) k) (mv (S.1 0) i) (hasB (matI (mw (S.1 0))))
                    refine n_ifle (tgt := 98) X dX5_isWeaklyBeaten_93 (by decide) (by omega) (fun c_93 => ?_) (fun c_93 => ?_)
                    ·
                      refine lv_iinc (v := nI (k + 1)) (lv' := [(4, .int _), (0, .ref _), (1, .int _), (2, .int _), (3, .int _)]) hx hb dX5_isWeaklyBeaten_98 hl (k := 4) rfl (nI_iinc _ 1 rfl) (by decide) rfl (fun ls hl => ?_)
                      refine lv_goto (tgt := 37) hx hb dX5_isWeaklyBeaten_101 (by decide) ?_
                      exact ih37 _ (by omega) (allB_s hz (by simp [wbB, c_93])) (by omega) _ hL ls (lv_sub hl [1, 2, 3, 4, 0] rfl)
                    ·
                      refine lv_iconst (v := nI 1) hx hb dX5_isWeaklyBeaten_96 (by decide) ?_
                      exact r_iret X hL rfl rfl dX5_isWeaklyBeaten_97 (by omega) (by omega) ⟨v_t (anyB_t (k := k) (by rw [hv] at c_79; simp [wbB, c_53, c_62, c_93, le_of_nlt c_79]) (by omega)), rfl⟩
        exact L37 (n + 1) 0 (by omega) rfl (by omega) _ hL ls (lv_sub hl [1, 2, 3, 4, 0] rfl)
      ·
        refine lv_iload_n hx hb dX5_isWeaklyBeaten_11 rfl (lv_at hl 3 rfl) ?_
        refine lv_aload_n hx hb dX5_isWeaklyBeaten_12 rfl (lv_at hl 0 rfl) ?_
        refine lv_iload hx hb dX5_isWeaklyBeaten_13 (lv_at hl 4 rfl) ?_
        refine Cp.callV (v := .int (bI (matB (mw (S.1 0)) q))) (ct_X5_matters l g o q S (by omega)) X hL hl vb_X5_matters q1931 (hW.2.1.recv hKV rfl) rfl rfl (Nat.le_of_ble_eq_true rfl) dX5_isWeaklyBeaten_15 ⟨Nat.le_of_ble_eq_true rfl, Nat.le_of_ble_eq_true rfl⟩ (by omega) (by omega) hW (fun locs hL => ?_)
        refine b_ifeq (tgt := 25) X dX5_isWeaklyBeaten_18 (by decide) (fun c_18 => ?_) (fun c_18 => ?_)
        ·
          refine lv_iconst (v := nI 0) hx hb dX5_isWeaklyBeaten_25 (by decide) ?_
          refine n_iadd X dX5_isWeaklyBeaten_26 ?_
          refine lv_istore_n (lv' := [(3, .int _), (0, .ref _), (1, .int _), (2, .int _), (4, .int _)]) hx hb dX5_isWeaklyBeaten_27 rfl hl (by decide) rfl (fun ls hl => ?_)
          refine lv_iinc (v := nI (q + 1)) (lv' := [(4, .int _), (3, .int _), (0, .ref _), (1, .int _), (2, .int _)]) hx hb dX5_isWeaklyBeaten_28 hl (k := 4) rfl (nI_iinc _ 1 rfl) (by decide) rfl (fun ls hl => ?_)
          refine lv_goto (tgt := 5) hx hb dX5_isWeaklyBeaten_31 (by decide) ?_
          exact ih5 _ _ (by omega) (by first | exact cnt_t hv c_18 | exact cnt_f hv c_18) (by omega) _ hL ls (lv_sub hl [2, 3, 4, 1, 0] rfl)
        ·
          refine lv_iconst (v := nI 1) hx hb dX5_isWeaklyBeaten_21 (by decide) ?_
          refine lv_goto (tgt := 26) hx hb dX5_isWeaklyBeaten_22 (by decide) ?_
          refine n_iadd X dX5_isWeaklyBeaten_26 ?_
          refine lv_istore_n (lv' := [(3, .int _), (0, .ref _), (1, .int _), (2, .int _), (4, .int _)]) hx hb dX5_isWeaklyBeaten_27 rfl hl (by decide) rfl (fun ls hl => ?_)
          refine lv_iinc (v := nI (q + 1)) (lv' := [(4, .int _), (3, .int _), (0, .ref _), (1, .int _), (2, .int _)]) hx hb dX5_isWeaklyBeaten_28 hl (k := 4) rfl (nI_iinc _ 1 rfl) (by decide) rfl (fun ls hl => ?_)
          refine lv_goto (tgt := 5) hx hb dX5_isWeaklyBeaten_31 (by decide) ?_
          exact ih5 _ _ (by omega) (by first | exact cnt_t hv c_18 | exact cnt_f hv c_18) (by omega) _ hL ls (lv_sub hl [2, 3, 4, 1, 0] rfl)
  exact L5 5 0 0 (by omega) rfl (by omega) _ hL ls (lv_sub hl [2, 3, 4, 1, 0] rfl)
theorem vb_X5_isWeaklyBeaten : VB yX5_isWeaklyBeaten cX5_isWeaklyBeaten 5 (some .boolean) 2 := ⟨q2166, qs83, q111, q2167, ⟨by decide, by decide, by decide +kernel⟩⟩

set_option maxRecDepth 100000 in
set_option maxHeartbeats 4000000 in
theorem ct_X5_against (l : Launch) (g : GT) (o i : Nat) (S : MS) (a b q t : Int32) (hi : i < 40) : Ct l g yX5_against cX5_against 10 (some .int) 4 0 0 [.ref o, .int (nI i), .int a, .int b, .int q, .int t] (MW g o S) (fun r H H1 => r = some (.int (nI (agN (mw (S.1 0)) (mv (S.1 0) i) (amI a b q t)))) ∧ H1 = H) := by
  refine Ct.of (by decide) (Nat.le_of_ble_eq_true rfl) ?_
  intro p e s m args below meth c X hP ls hl
  have hx := X.1
  have hb := X.2.1
  have hKV := X.2.2.2.2.2.2.2.1.1
  have hL : ∀ q ∈ ([] : List Loc), gLo g ≤ q.base := fun _ h => by cases h
  have hl : lv_has ls 10 [(0, .ref o), (1, .int (nI i)), (2, .int a), (3, .int b), (4, .int q), (5, .int t)] := hl
  have hW : MW g o S s.heap := hP
  have hO : Off o s.heap s.heap := Off.rfl'
  refine lv_iconst (v := nI 0) hx hb dX5_against_0 (by decide) ?_
  refine lv_istore (lv' := [(6, .int _), (0, .ref _), (1, .int _), (2, .int _), (3, .int _), (4, .int _), (5, .int _)]) hx hb dX5_against_1 hl (by decide) rfl (fun ls hl => ?_)
  refine lv_iconst (v := nI 0) hx hb dX5_against_3 (by decide) ?_
  refine lv_istore (lv' := [(7, .int _), (6, .int _), (0, .ref _), (1, .int _), (2, .int _), (3, .int _), (4, .int _), (5, .int _)]) hx hb dX5_against_4 hl (by decide) rfl (fun ls hl => ?_)
  refine lv_iconst (v := nI 0) hx hb dX5_against_6 (by decide) ?_
  refine lv_istore (lv' := [(8, .int _), (7, .int _), (6, .int _), (0, .ref _), (1, .int _), (2, .int _), (3, .int _), (4, .int _), (5, .int _)]) hx hb dX5_against_7 hl (by decide) rfl (fun ls hl => ?_)
  have L9 : ∀ (fuel : Nat) (u v k : Nat), 4 - k < fuel → (u = cnt (fun s => matB (mw (S.1 0)) s && decide (goodI (mw (S.1 0)) (amI a b q t) s < goodI (mw (S.1 0)) (mv (S.1 0) i) s)) k) → (v = cnt (fun s => matB (mw (S.1 0)) s && decide (goodI (mw (S.1 0)) (mv (S.1 0) i) s < goodI (mw (S.1 0)) (amI a b q t) s)) k) → (k ≤ 4) → ∀ (locs : List Loc), (∀ q ∈ locs, gLo g ≤ q.base) → ∀ (ls : Array Slot), lv_has ls 10 [(0, .ref o), (1, .int (nI i)), (2, .int a), (3, .int b), (4, .int q), (5, .int t), (6, .int (nI u)), (7, .int (nI v)), (8, .int (nI k))] → W p l e (rmL 4 0 0) s m args below meth c s.heap locs 0 0 (MQ below (Qcg (fun r H H1 => r = some (.int (nI (agN (mw (S.1 0)) (mv (S.1 0) i) (amI a b q t)))) ∧ H1 = H)) args s 0 0 (fre g)) (F0 m 9 ls []) := by
    intro fuel
    induction fuel with
    | zero => intro u v k hf; exact absurd hf (Nat.not_lt_zero _)
    | succ fuel ih9 =>
      intro u v k hf hu hv hk  locs hL ls hl
      have hub : u ≤ k := by rw [hu]; exact cnt_le _ _
      have hvb : v ≤ k := by rw [hv]; exact cnt_le _ _
      refine lv_iload hx hb dX5_against_9 (lv_at hl 8 rfl) ?_
      refine lv_iconst (v := nI 4) hx hb dX5_against_11 (by decide) ?_
      refine n_icmp_ge (tgt := 102) X dX5_against_12 (by decide) (by omega) (by omega) (fun c_12 => ?_) (fun c_12 => ?_)
      ·
        refine lv_iload hx hb dX5_against_102 (lv_at hl 6 rfl) ?_
        refine n_ifle (tgt := 116) X dX5_against_104 (by decide) (by omega) (fun c_104 => ?_) (fun c_104 => ?_)
        ·
          refine lv_iload hx hb dX5_against_116 (lv_at hl 7 rfl) ?_
          refine n_ifle (tgt := 130) X dX5_against_118 (by decide) (by omega) (fun c_118 => ?_) (fun c_118 => ?_)
          ·
            refine lv_iconst (v := nI 0) hx hb dX5_against_130 (by decide) ?_
            exact r_iret X hL rfl rfl dX5_against_131 (by omega) (by omega) ⟨v_n (by have e : k = 4 := (by omega); subst e; unfold agN upN; rw [← hu, ← hv]; split <;> (try split) <;> omega), rfl⟩
          ·
            refine lv_iload hx hb dX5_against_121 (lv_at hl 6 rfl) ?_
            refine n_ifne (tgt := 130) X dX5_against_123 (by decide) (by omega) (fun c_123 => ?_) (fun c_123 => ?_)
            ·
              refine lv_iconst (v := nI 0) hx hb dX5_against_130 (by decide) ?_
              exact r_iret X hL rfl rfl dX5_against_131 (by omega) (by omega) ⟨v_n (by have e : k = 4 := (by omega); subst e; unfold agN upN; rw [← hu, ← hv]; split <;> (try split) <;> omega), rfl⟩
            ·
              refine lv_iconst (v := nI 2) hx hb dX5_against_126 (by decide) ?_
              refine lv_goto (tgt := 131) hx hb dX5_against_127 (by decide) ?_
              exact r_iret X hL rfl rfl dX5_against_131 (by omega) (by omega) ⟨v_n (by have e : k = 4 := (by omega); subst e; unfold agN upN; rw [← hu, ← hv]; split <;> (try split) <;> omega), rfl⟩
        ·
          refine lv_iload hx hb dX5_against_107 (lv_at hl 7 rfl) ?_
          refine n_ifne (tgt := 116) X dX5_against_109 (by decide) (by omega) (fun c_109 => ?_) (fun c_109 => ?_)
          ·
            refine lv_iload hx hb dX5_against_116 (lv_at hl 7 rfl) ?_
            refine n_ifle (tgt := 130) X dX5_against_118 (by decide) (by omega) (fun c_118 => ?_) (fun c_118 => ?_)
            ·
              refine lv_iconst (v := nI 0) hx hb dX5_against_130 (by decide) ?_
              exact r_iret X hL rfl rfl dX5_against_131 (by omega) (by omega) ⟨v_n (by have e : k = 4 := (by omega); subst e; unfold agN upN; rw [← hu, ← hv]; split <;> (try split) <;> omega), rfl⟩
            ·
              refine lv_iload hx hb dX5_against_121 (lv_at hl 6 rfl) ?_
              refine n_ifne (tgt := 130) X dX5_against_123 (by decide) (by omega) (fun c_123 => ?_) (fun c_123 => ?_)
              ·
                refine lv_iconst (v := nI 0) hx hb dX5_against_130 (by decide) ?_
                exact r_iret X hL rfl rfl dX5_against_131 (by omega) (by omega) ⟨v_n (by have e : k = 4 := (by omega); subst e; unfold agN upN; rw [← hu, ← hv]; split <;> (try split) <;> omega), rfl⟩
              ·
                refine lv_iconst (v := nI 2) hx hb dX5_against_126 (by decide) ?_
                refine lv_goto (tgt := 131) hx hb dX5_against_127 (by decide) ?_
                exact r_iret X hL rfl rfl dX5_against_131 (by omega) (by omega) ⟨v_n (by have e : k = 4 := (by omega); subst e; unfold agN upN; rw [← hu, ← hv]; split <;> (try split) <;> omega), rfl⟩
          ·
            refine lv_iconst (v := nI 1) hx hb dX5_against_112 (by decide) ?_
            refine lv_goto (tgt := 131) hx hb dX5_against_113 (by decide) ?_
            exact r_iret X hL rfl rfl dX5_against_131 (by omega) (by omega) ⟨v_n (by have e : k = 4 := (by omega); subst e; unfold agN upN; rw [← hu, ← hv]; split <;> (try split) <;> omega), rfl⟩
      ·
        refine lv_aload_n hx hb dX5_against_15 rfl (lv_at hl 0 rfl) ?_
        refine lv_iload hx hb dX5_against_16 (lv_at hl 8 rfl) ?_
        refine lv_iload_n hx hb dX5_against_18 rfl (lv_at hl 2 rfl) ?_
        refine lv_iload_n hx hb dX5_against_19 rfl (lv_at hl 3 rfl) ?_
        refine lv_iload hx hb dX5_against_20 (lv_at hl 4 rfl) ?_
        refine lv_iload hx hb dX5_against_22 (lv_at hl 5 rfl) ?_
        refine Cp.callS (v := .int (amI a b q t k)) (ct_X5_among l g k a b q t (by omega)) X hL hl sb_X5_among q2180 rfl rfl (Nat.le_of_ble_eq_true rfl) dX5_against_24 ⟨Nat.le_of_ble_eq_true rfl, Nat.le_of_ble_eq_true rfl⟩ (by omega) (by omega) trivial (fun locs hL => ?_)
        refine lv_iload hx hb dX5_against_27 (lv_at hl 8 rfl) ?_
        refine Cp.callV (v := .int (goodI (mw (S.1 0)) (amI a b q t) k)) (ct_X5_goodOf l g o k S (amI a b q t k) (by omega)) X hL hl vb_X5_goodOf q2187 (hW.2.1.recv hKV rfl) rfl rfl (Nat.le_of_ble_eq_true rfl) dX5_against_29 ⟨Nat.le_of_ble_eq_true rfl, Nat.le_of_ble_eq_true rfl⟩ (by omega) (by omega) hW (fun locs hL => ?_)
        refine lv_istore (lv' := [(9, .int _), (0, .ref _), (1, .int _), (2, .int _), (3, .int _), (4, .int _), (5, .int _), (6, .int _), (7, .int _), (8, .int _)]) hx hb dX5_against_32 hl (by decide) rfl (fun ls hl => ?_)
        refine lv_iload hx hb dX5_against_34 (lv_at hl 7 rfl) ?_
        refine lv_aload_n hx hb dX5_against_36 rfl (lv_at hl 1 rfl) ?_
        refine lv_iload hx hb dX5_against_37 (lv_at hl 9 rfl) ?_
        refine Cp.callV (v := .int (bI (matB (mw (S.1 0)) k))) (ct_X5_matters l g o k S (by omega)) X hL hl vb_X5_matters q1931 (hW.2.1.recv hKV rfl) rfl rfl (Nat.le_of_ble_eq_true rfl) dX5_against_39 ⟨Nat.le_of_ble_eq_true rfl, Nat.le_of_ble_eq_true rfl⟩ (by omega) (by omega) hW (fun locs hL => ?_)
        refine b_ifeq (tgt := 61) X dX5_against_42 (by decide) (fun c_42 => ?_) (fun c_42 => ?_)
        ·
          refine lv_iconst (v := nI 0) hx hb dX5_against_61 (by decide) ?_
          refine n_iadd X dX5_against_62 ?_
          refine lv_istore (lv' := [(6, .int _), (9, .int _), (0, .ref _), (1, .int _), (2, .int _), (3, .int _), (4, .int _), (5, .int _), (7, .int _), (8, .int _)]) hx hb dX5_against_63 hl (by decide) rfl (fun ls hl => ?_)
          refine lv_iload hx hb dX5_against_65 (lv_at hl 8 rfl) ?_
          refine lv_aload_n hx hb dX5_against_67 rfl (lv_at hl 2 rfl) ?_
          refine lv_iload hx hb dX5_against_68 (lv_at hl 9 rfl) ?_
          refine Cp.callV (v := .int (bI (matB (mw (S.1 0)) k))) (ct_X5_matters l g o k S (by omega)) X hL hl vb_X5_matters q1931 (hW.2.1.recv hKV rfl) rfl rfl (Nat.le_of_ble_eq_true rfl) dX5_against_70 ⟨Nat.le_of_ble_eq_true rfl, Nat.le_of_ble_eq_true rfl⟩ (by omega) (by omega) hW (fun locs hL => ?_)
          refine b_ifeq (tgt := 92) X dX5_against_73 (by decide) (fun c_73 => ?_) (fun c_73 => ?_)
          ·
            refine lv_iconst (v := nI 0) hx hb dX5_against_92 (by decide) ?_
            refine n_iadd X dX5_against_93 ?_
            refine lv_istore (lv' := [(7, .int _), (6, .int _), (9, .int _), (0, .ref _), (1, .int _), (2, .int _), (3, .int _), (4, .int _), (5, .int _), (8, .int _)]) hx hb dX5_against_94 hl (by decide) rfl (fun ls hl => ?_)
            refine lv_iinc (v := nI (k + 1)) (lv' := [(8, .int _), (7, .int _), (6, .int _), (9, .int _), (0, .ref _), (1, .int _), (2, .int _), (3, .int _), (4, .int _), (5, .int _)]) hx hb dX5_against_96 hl (k := 9) rfl (nI_iinc _ 1 rfl) (by decide) rfl (fun ls hl => ?_)
            refine lv_goto (tgt := 9) hx hb dX5_against_99 (by decide) ?_
            exact ih9 _ _ _ (by omega) (by first | (refine cnt_f hu ?_; simp [c_42]; done) | (refine cnt_f hu ?_; simp [nlt_of_le c_54]; done) | (refine cnt_t hu ?_; simp [c_42, lt_of_nle c_54]; done)) (by first | (refine cnt_f hv ?_; simp [c_73]; done) | (refine cnt_f hv ?_; simp [nlt_of_le c_85]; done) | (refine cnt_t hv ?_; simp [c_73, lt_of_nle c_85]; done)) (by omega) _ hL ls (lv_sub hl [4, 5, 6, 7, 8, 9, 2, 1, 0] rfl)
          ·
            refine lv_aload_n hx hb dX5_against_76 rfl (lv_at hl 2 rfl) ?_
            refine lv_iload_n hx hb dX5_against_77 rfl (lv_at hl 3 rfl) ?_
            refine lv_iload hx hb dX5_against_78 (lv_at hl 9 rfl) ?_
            refine Cp.callV (v := .int (goodI (mw (S.1 0)) (mv (S.1 0) i) k)) (ct_X5_good l g o i k S (by omega) (by omega)) X hL hl vb_X5_good q1951 (hW.2.1.recv hKV rfl) rfl rfl (Nat.le_of_ble_eq_true rfl) dX5_against_80 ⟨Nat.le_of_ble_eq_true rfl, Nat.le_of_ble_eq_true rfl⟩ (by omega) (by omega) hW (fun locs hL => ?_)
            refine lv_iload hx hb dX5_against_83 (lv_at hl 1 rfl) ?_
            refine lv_icmp_ge (tgt := 92) hx hb dX5_against_85 (by decide) (fun c_85 => ?_) (fun c_85 => ?_)
            ·
              refine lv_iconst (v := nI 0) hx hb dX5_against_92 (by decide) ?_
              refine n_iadd X dX5_against_93 ?_
              refine lv_istore (lv' := [(7, .int _), (6, .int _), (9, .int _), (0, .ref _), (1, .int _), (2, .int _), (3, .int _), (4, .int _), (5, .int _), (8, .int _)]) hx hb dX5_against_94 hl (by decide) rfl (fun ls hl => ?_)
              refine lv_iinc (v := nI (k + 1)) (lv' := [(8, .int _), (7, .int _), (6, .int _), (9, .int _), (0, .ref _), (1, .int _), (2, .int _), (3, .int _), (4, .int _), (5, .int _)]) hx hb dX5_against_96 hl (k := 9) rfl (nI_iinc _ 1 rfl) (by decide) rfl (fun ls hl => ?_)
              refine lv_goto (tgt := 9) hx hb dX5_against_99 (by decide) ?_
              exact ih9 _ _ _ (by omega) (by first | (refine cnt_f hu ?_; simp [c_42]; done) | (refine cnt_f hu ?_; simp [nlt_of_le c_54]; done) | (refine cnt_t hu ?_; simp [c_42, lt_of_nle c_54]; done)) (by first | (refine cnt_f hv ?_; simp [c_73]; done) | (refine cnt_f hv ?_; simp [nlt_of_le c_85]; done) | (refine cnt_t hv ?_; simp [c_73, lt_of_nle c_85]; done)) (by omega) _ hL ls (lv_sub hl [4, 5, 6, 7, 8, 9, 2, 1, 0] rfl)
            ·
              refine lv_iconst (v := nI 1) hx hb dX5_against_88 (by decide) ?_
              refine lv_goto (tgt := 93) hx hb dX5_against_89 (by decide) ?_
              refine n_iadd X dX5_against_93 ?_
              refine lv_istore (lv' := [(7, .int _), (6, .int _), (9, .int _), (0, .ref _), (1, .int _), (2, .int _), (3, .int _), (4, .int _), (5, .int _), (8, .int _)]) hx hb dX5_against_94 hl (by decide) rfl (fun ls hl => ?_)
              refine lv_iinc (v := nI (k + 1)) (lv' := [(8, .int _), (7, .int _), (6, .int _), (9, .int _), (0, .ref _), (1, .int _), (2, .int _), (3, .int _), (4, .int _), (5, .int _)]) hx hb dX5_against_96 hl (k := 9) rfl (nI_iinc _ 1 rfl) (by decide) rfl (fun ls hl => ?_)
              refine lv_goto (tgt := 9) hx hb dX5_against_99 (by decide) ?_
              exact ih9 _ _ _ (by omega) (by first | (refine cnt_f hu ?_; simp [c_42]; done) | (refine cnt_f hu ?_; simp [nlt_of_le c_54]; done) | (refine cnt_t hu ?_; simp [c_42, lt_of_nle c_54]; done)) (by first | (refine cnt_f hv ?_; simp [c_73]; done) | (refine cnt_f hv ?_; simp [nlt_of_le c_85]; done) | (refine cnt_t hv ?_; simp [c_73, lt_of_nle c_85]; done)) (by omega) _ hL ls (lv_sub hl [4, 5, 6, 7, 8, 9, 2, 1, 0] rfl)
        ·
          refine lv_aload_n hx hb dX5_against_45 rfl (lv_at hl 1 rfl) ?_
          refine lv_iload_n hx hb dX5_against_46 rfl (lv_at hl 2 rfl) ?_
          refine lv_iload hx hb dX5_against_47 (lv_at hl 9 rfl) ?_
          refine Cp.callV (v := .int (goodI (mw (S.1 0)) (mv (S.1 0) i) k)) (ct_X5_good l g o i k S (by omega) (by omega)) X hL hl vb_X5_good q1951 (hW.2.1.recv hKV rfl) rfl rfl (Nat.le_of_ble_eq_true rfl) dX5_against_49 ⟨Nat.le_of_ble_eq_true rfl, Nat.le_of_ble_eq_true rfl⟩ (by omega) (by omega) hW (fun locs hL => ?_)
          refine lv_iload hx hb dX5_against_52 (lv_at hl 0 rfl) ?_
          refine lv_icmp_le (tgt := 61) hx hb dX5_against_54 (by decide) (fun c_54 => ?_) (fun c_54 => ?_)
          ·
            refine lv_iconst (v := nI 0) hx hb dX5_against_61 (by decide) ?_
            refine n_iadd X dX5_against_62 ?_
            refine lv_istore (lv' := [(6, .int _), (9, .int _), (0, .ref _), (1, .int _), (2, .int _), (3, .int _), (4, .int _), (5, .int _), (7, .int _), (8, .int _)]) hx hb dX5_against_63 hl (by decide) rfl (fun ls hl => ?_)
            refine lv_iload hx hb dX5_against_65 (lv_at hl 8 rfl) ?_
            refine lv_aload_n hx hb dX5_against_67 rfl (lv_at hl 2 rfl) ?_
            refine lv_iload hx hb dX5_against_68 (lv_at hl 9 rfl) ?_
            refine Cp.callV (v := .int (bI (matB (mw (S.1 0)) k))) (ct_X5_matters l g o k S (by omega)) X hL hl vb_X5_matters q1931 (hW.2.1.recv hKV rfl) rfl rfl (Nat.le_of_ble_eq_true rfl) dX5_against_70 ⟨Nat.le_of_ble_eq_true rfl, Nat.le_of_ble_eq_true rfl⟩ (by omega) (by omega) hW (fun locs hL => ?_)
            refine b_ifeq (tgt := 92) X dX5_against_73 (by decide) (fun c_73 => ?_) (fun c_73 => ?_)
            ·
              refine lv_iconst (v := nI 0) hx hb dX5_against_92 (by decide) ?_
              refine n_iadd X dX5_against_93 ?_
              refine lv_istore (lv' := [(7, .int _), (6, .int _), (9, .int _), (0, .ref _), (1, .int _), (2, .int _), (3, .int _), (4, .int _), (5, .int _), (8, .int _)]) hx hb dX5_against_94 hl (by decide) rfl (fun ls hl => ?_)
              refine lv_iinc (v := nI (k + 1)) (lv' := [(8, .int _), (7, .int _), (6, .int _), (9, .int _), (0, .ref _), (1, .int _), (2, .int _), (3, .int _), (4, .int _), (5, .int _)]) hx hb dX5_against_96 hl (k := 9) rfl (nI_iinc _ 1 rfl) (by decide) rfl (fun ls hl => ?_)
              refine lv_goto (tgt := 9) hx hb dX5_against_99 (by decide) ?_
              exact ih9 _ _ _ (by omega) (by first | (refine cnt_f hu ?_; simp [c_42]; done) | (refine cnt_f hu ?_; simp [nlt_of_le c_54]; done) | (refine cnt_t hu ?_; simp [c_42, lt_of_nle c_54]; done)) (by first | (refine cnt_f hv ?_; simp [c_73]; done) | (refine cnt_f hv ?_; simp [nlt_of_le c_85]; done) | (refine cnt_t hv ?_; simp [c_73, lt_of_nle c_85]; done)) (by omega) _ hL ls (lv_sub hl [4, 5, 6, 7, 8, 9, 2, 1, 0] rfl)
            ·
              refine lv_aload_n hx hb dX5_against_76 rfl (lv_at hl 2 rfl) ?_
              refine lv_iload_n hx hb dX5_against_77 rfl (lv_at hl 3 rfl) ?_
              refine lv_iload hx hb dX5_against_78 (lv_at hl 9 rfl) ?_
              refine Cp.callV (v := .int (goodI (mw (S.1 0)) (mv (S.1 0) i) k)) (ct_X5_good l g o i k S (by omega) (by omega)) X hL hl vb_X5_good q1951 (hW.2.1.recv hKV rfl) rfl rfl (Nat.le_of_ble_eq_true rfl) dX5_against_80 ⟨Nat.le_of_ble_eq_true rfl, Nat.le_of_ble_eq_true rfl⟩ (by omega) (by omega) hW (fun locs hL => ?_)
              refine lv_iload hx hb dX5_against_83 (lv_at hl 1 rfl) ?_
              refine lv_icmp_ge (tgt := 92) hx hb dX5_against_85 (by decide) (fun c_85 => ?_) (fun c_85 => ?_)
              ·
                refine lv_iconst (v := nI 0) hx hb dX5_against_92 (by decide) ?_
                refine n_iadd X dX5_against_93 ?_
                refine lv_istore (lv' := [(7, .int _), (6, .int _), (9, .int _), (0, .ref _), (1, .int _), (2, .int _), (3, .int _), (4, .int _), (5, .int _), (8, .int _)]) hx hb dX5_against_94 hl (by decide) rfl (fun ls hl => ?_)
                refine lv_iinc (v := nI (k + 1)) (lv' := [(8, .int _), (7, .int _), (6, .int _), (9, .int _), (0, .ref _), (1, .int _), (2, .int _), (3, .int _), (4, .int _), (5, .int _)]) hx hb dX5_against_96 hl (k := 9) rfl (nI_iinc _ 1 rfl) (by decide) rfl (fun ls hl => ?_)
                refine lv_goto (tgt := 9) hx hb dX5_against_99 (by decide) ?_
                exact ih9 _ _ _ (by omega) (by first | (refine cnt_f hu ?_; simp [c_42]; done) | (refine cnt_f hu ?_; simp [nlt_of_le c_54]; done) | (refine cnt_t hu ?_; simp [c_42, lt_of_nle c_54]; done)) (by first | (refine cnt_f hv ?_; simp [c_73]; done) | (refine cnt_f hv ?_; simp [nlt_of_le c_85]; done) | (refine cnt_t hv ?_; simp [c_73, lt_of_nle c_85]; done)) (by omega) _ hL ls (lv_sub hl [4, 5, 6, 7, 8, 9, 2, 1, 0] rfl)
              ·
                refine lv_iconst (v := nI 1) hx hb dX5_against_88 (by decide) ?_
                refine lv_goto (tgt := 93) hx hb dX5_against_89 (by decide) ?_
                refine n_iadd X dX5_against_93 ?_
                refine lv_istore (lv' := [(7, .int _), (6, .int _), (9, .int _), (0, .ref _), (1, .int _), (2, .int _), (3, .int _), (4, .int _), (5, .int _), (8, .int _)]) hx hb dX5_against_94 hl (by decide) rfl (fun ls hl => ?_)
                refine lv_iinc (v := nI (k + 1)) (lv' := [(8, .int _), (7, .int _), (6, .int _), (9, .int _), (0, .ref _), (1, .int _), (2, .int _), (3, .int _), (4, .int _), (5, .int _)]) hx hb dX5_against_96 hl (k := 9) rfl (nI_iinc _ 1 rfl) (by decide) rfl (fun ls hl => ?_)
                refine lv_goto (tgt := 9) hx hb dX5_against_99 (by decide) ?_
                exact ih9 _ _ _ (by omega) (by first | (refine cnt_f hu ?_; simp [c_42]; done) | (refine cnt_f hu ?_; simp [nlt_of_le c_54]; done) | (refine cnt_t hu ?_; simp [c_42, lt_of_nle c_54]; done)) (by first | (refine cnt_f hv ?_; simp [c_73]; done) | (refine cnt_f hv ?_; simp [nlt_of_le c_85]; done) | (refine cnt_t hv ?_; simp [c_73, lt_of_nle c_85]; done)) (by omega) _ hL ls (lv_sub hl [4, 5, 6, 7, 8, 9, 2, 1, 0] rfl)
          ·
            refine lv_iconst (v := nI 1) hx hb dX5_against_57 (by decide) ?_
            refine lv_goto (tgt := 62) hx hb dX5_against_58 (by decide) ?_
            refine n_iadd X dX5_against_62 ?_
            refine lv_istore (lv' := [(6, .int _), (9, .int _), (0, .ref _), (1, .int _), (2, .int _), (3, .int _), (4, .int _), (5, .int _), (7, .int _), (8, .int _)]) hx hb dX5_against_63 hl (by decide) rfl (fun ls hl => ?_)
            refine lv_iload hx hb dX5_against_65 (lv_at hl 8 rfl) ?_
            refine lv_aload_n hx hb dX5_against_67 rfl (lv_at hl 2 rfl) ?_
            refine lv_iload hx hb dX5_against_68 (lv_at hl 9 rfl) ?_
            refine Cp.callV (v := .int (bI (matB (mw (S.1 0)) k))) (ct_X5_matters l g o k S (by omega)) X hL hl vb_X5_matters q1931 (hW.2.1.recv hKV rfl) rfl rfl (Nat.le_of_ble_eq_true rfl) dX5_against_70 ⟨Nat.le_of_ble_eq_true rfl, Nat.le_of_ble_eq_true rfl⟩ (by omega) (by omega) hW (fun locs hL => ?_)
            refine b_ifeq (tgt := 92) X dX5_against_73 (by decide) (fun c_73 => ?_) (fun c_73 => ?_)
            ·
              refine lv_iconst (v := nI 0) hx hb dX5_against_92 (by decide) ?_
              refine n_iadd X dX5_against_93 ?_
              refine lv_istore (lv' := [(7, .int _), (6, .int _), (9, .int _), (0, .ref _), (1, .int _), (2, .int _), (3, .int _), (4, .int _), (5, .int _), (8, .int _)]) hx hb dX5_against_94 hl (by decide) rfl (fun ls hl => ?_)
              refine lv_iinc (v := nI (k + 1)) (lv' := [(8, .int _), (7, .int _), (6, .int _), (9, .int _), (0, .ref _), (1, .int _), (2, .int _), (3, .int _), (4, .int _), (5, .int _)]) hx hb dX5_against_96 hl (k := 9) rfl (nI_iinc _ 1 rfl) (by decide) rfl (fun ls hl => ?_)
              refine lv_goto (tgt := 9) hx hb dX5_against_99 (by decide) ?_
              exact ih9 _ _ _ (by omega) (by first | (refine cnt_f hu ?_; simp [c_42]; done) | (refine cnt_f hu ?_; simp [nlt_of_le c_54]; done) | (refine cnt_t hu ?_; simp [c_42, lt_of_nle c_54]; done)) (by first | (refine cnt_f hv ?_; simp [c_73]; done) | (refine cnt_f hv ?_; simp [nlt_of_le c_85]; done) | (refine cnt_t hv ?_; simp [c_73, lt_of_nle c_85]; done)) (by omega) _ hL ls (lv_sub hl [4, 5, 6, 7, 8, 9, 2, 1, 0] rfl)
            ·
              refine lv_aload_n hx hb dX5_against_76 rfl (lv_at hl 2 rfl) ?_
              refine lv_iload_n hx hb dX5_against_77 rfl (lv_at hl 3 rfl) ?_
              refine lv_iload hx hb dX5_against_78 (lv_at hl 9 rfl) ?_
              refine Cp.callV (v := .int (goodI (mw (S.1 0)) (mv (S.1 0) i) k)) (ct_X5_good l g o i k S (by omega) (by omega)) X hL hl vb_X5_good q1951 (hW.2.1.recv hKV rfl) rfl rfl (Nat.le_of_ble_eq_true rfl) dX5_against_80 ⟨Nat.le_of_ble_eq_true rfl, Nat.le_of_ble_eq_true rfl⟩ (by omega) (by omega) hW (fun locs hL => ?_)
              refine lv_iload hx hb dX5_against_83 (lv_at hl 1 rfl) ?_
              refine lv_icmp_ge (tgt := 92) hx hb dX5_against_85 (by decide) (fun c_85 => ?_) (fun c_85 => ?_)
              ·
                refine lv_iconst (v := nI 0) hx hb dX5_against_92 (by decide) ?_
                refine n_iadd X dX5_against_93 ?_
                refine lv_istore (lv' := [(7, .int _), (6, .int _), (9, .int _), (0, .ref _), (1, .int _), (2, .int _), (3, .int _), (4, .int _), (5, .int _), (8, .int _)]) hx hb dX5_against_94 hl (by decide) rfl (fun ls hl => ?_)
                refine lv_iinc (v := nI (k + 1)) (lv' := [(8, .int _), (7, .int _), (6, .int _), (9, .int _), (0, .ref _), (1, .int _), (2, .int _), (3, .int _), (4, .int _), (5, .int _)]) hx hb dX5_against_96 hl (k := 9) rfl (nI_iinc _ 1 rfl) (by decide) rfl (fun ls hl => ?_)
                refine lv_goto (tgt := 9) hx hb dX5_against_99 (by decide) ?_
                exact ih9 _ _ _ (by omega) (by first | (refine cnt_f hu ?_; simp [c_42]; done) | (refine cnt_f hu ?_; simp [nlt_of_le c_54]; done) | (refine cnt_t hu ?_; simp [c_42, lt_of_nle c_54]; done)) (by first | (refine cnt_f hv ?_; simp [c_73]; done) | (refine cnt_f hv ?_; simp [nlt_of_le c_85]; done) | (refine cnt_t hv ?_; simp [c_73, lt_of_nle c_85]; done)) (by omega) _ hL ls (lv_sub hl [4, 5, 6, 7, 8, 9, 2, 1, 0] rfl)
              ·
                refine lv_iconst (v := nI 1) hx hb dX5_against_88 (by decide) ?_
                refine lv_goto (tgt := 93) hx hb dX5_against_89 (by decide) ?_
                refine n_iadd X dX5_against_93 ?_
                refine lv_istore (lv' := [(7, .int _), (6, .int _), (9, .int _), (0, .ref _), (1, .int _), (2, .int _), (3, .int _), (4, .int _), (5, .int _), (8, .int _)]) hx hb dX5_against_94 hl (by decide) rfl (fun ls hl => ?_)
                refine lv_iinc (v := nI (k + 1)) (lv' := [(8, .int _), (7, .int _), (6, .int _), (9, .int _), (0, .ref _), (1, .int _), (2, .int _), (3, .int _), (4, .int _), (5, .int _)]) hx hb dX5_against_96 hl (k := 9) rfl (nI_iinc _ 1 rfl) (by decide) rfl (fun ls hl => ?_)
                refine lv_goto (tgt := 9) hx hb dX5_against_99 (by decide) ?_
                exact ih9 _ _ _ (by omega) (by first | (refine cnt_f hu ?_; simp [c_42]; done) | (refine cnt_f hu ?_; simp [nlt_of_le c_54]; done) | (refine cnt_t hu ?_; simp [c_42, lt_of_nle c_54]; done)) (by first | (refine cnt_f hv ?_; simp [c_73]; done) | (refine cnt_f hv ?_; simp [nlt_of_le c_85]; done) | (refine cnt_t hv ?_; simp [c_73, lt_of_nle c_85]; done)) (by omega) _ hL ls (lv_sub hl [4, 5, 6, 7, 8, 9, 2, 1, 0] rfl)
  exact L9 5 0 0 0 (by omega) rfl rfl (by omega) _ hL ls (lv_sub hl [3, 4, 5, 6, 7, 8, 2, 1, 0] rfl)
theorem vb_X5_against : VB yX5_against cX5_against 10 (some .int) 5 := ⟨q2185, qs86, q111, q2186, ⟨by decide, by decide, by decide +kernel⟩⟩

set_option maxRecDepth 100000 in
set_option maxHeartbeats 4000000 in
theorem ct_X5_isWithin (l : Launch) (g : GT) (o : Nat) (S : MS) (a b q t : Int32)  : Ct l g yX5_isWithin cX5_isWithin 6 (some .boolean) 3 0 0 [.ref o, .int a, .int b, .int q, .int t] (MW g o S) (fun r H H1 => r = some (.int (bI (couB (mle (S.1 0)) (mgr (S.1 0)) (amI a b q t)))) ∧ H1 = H) := by
  refine Ct.of (by decide) (Nat.le_of_ble_eq_true rfl) ?_
  intro p e s m args below meth c X hP ls hl
  have hx := X.1
  have hb := X.2.1
  have hKV := X.2.2.2.2.2.2.2.1.1
  have hL : ∀ q ∈ ([] : List Loc), gLo g ≤ q.base := fun _ h => by cases h
  have hl : lv_has ls 6 [(0, .ref o), (1, .int a), (2, .int b), (3, .int q), (4, .int t)] := hl
  have hW : MW g o S s.heap := hP
  have hO : Off o s.heap s.heap := Off.rfl'
  refine lv_iconst (v := nI 0) hx hb dX5_isWithin_0 (by decide) ?_
  refine lv_istore (lv' := [(5, .int _), (0, .ref _), (1, .int _), (2, .int _), (3, .int _), (4, .int _)]) hx hb dX5_isWithin_1 hl (by decide) rfl (fun ls hl => ?_)
  have L3 : ∀ (fuel : Nat) (k : Nat), 4 - k < fuel → (allB (fun s => inB (amI a b q t s) (mle (S.1 0) s) (mgr (S.1 0) s)) k = true) → (k ≤ 4) → ∀ (locs : List Loc), (∀ q ∈ locs, gLo g ≤ q.base) → ∀ (ls : Array Slot), lv_has ls 6 [(0, .ref o), (1, .int a), (2, .int b), (3, .int q), (4, .int t), (5, .int (nI k))] → W p l e (rmL 3 0 0) s m args below meth c s.heap locs 0 0 (MQ below (Qcg (fun r H H1 => r = some (.int (bI (couB (mle (S.1 0)) (mgr (S.1 0)) (amI a b q t)))) ∧ H1 = H)) args s 0 0 (fre g)) (F0 m 3 ls []) := by
    intro fuel
    induction fuel with
    | zero => intro k hf; exact absurd hf (Nat.not_lt_zero _)
    | succ fuel ih3 =>
      intro k hf hv hk  locs hL ls hl
      refine lv_iload hx hb dX5_isWithin_3 (lv_at hl 5 rfl) ?_
      refine lv_iconst (v := nI 4) hx hb dX5_isWithin_5 (by decide) ?_
      refine n_icmp_ge (tgt := 55) X dX5_isWithin_6 (by decide) (by omega) (by omega) (fun c_6 => ?_) (fun c_6 => ?_)
      ·
        refine lv_iconst (v := nI 1) hx hb dX5_isWithin_55 (by decide) ?_
        exact r_iret X hL rfl rfl dX5_isWithin_56 (by omega) (by omega) ⟨v_t (by have h4 : k = 4 := (by omega); rw [h4] at hv; exact hv), rfl⟩
      ·
        refine lv_iload hx hb dX5_isWithin_9 (lv_at hl 5 rfl) ?_
        refine lv_iload_n hx hb dX5_isWithin_11 rfl (lv_at hl 1 rfl) ?_
        refine lv_iload_n hx hb dX5_isWithin_12 rfl (lv_at hl 2 rfl) ?_
        refine lv_iload_n hx hb dX5_isWithin_13 rfl (lv_at hl 3 rfl) ?_
        refine lv_iload hx hb dX5_isWithin_14 (lv_at hl 4 rfl) ?_
        refine Cp.callS (v := .int (amI a b q t k)) (ct_X5_among l g k a b q t (by omega)) X hL hl sb_X5_among q2180 rfl rfl (Nat.le_of_ble_eq_true rfl) dX5_isWithin_16 ⟨Nat.le_of_ble_eq_true rfl, Nat.le_of_ble_eq_true rfl⟩ (by omega) (by omega) trivial (fun locs hL => ?_)
        refine lv_aload_n hx hb dX5_isWithin_19 rfl (lv_at hl 0 rfl) ?_
        refine mg_7 X rfl hW dX5_isWithin_20 ?_
        refine lv_sipush (v := nI 165) hx hb dX5_isWithin_23 (by decide) ?_
        refine lv_iload hx hb dX5_isWithin_26 (lv_at hl 5 rfl) ?_
        refine n_iadd X dX5_isWithin_28 ?_
        refine m_ld (v := ((S.1 0) (165 + k))) X hW 0 (by decide) rfl (165 + k) rfl (by show 165 + k < 179; omega) rfl dX5_isWithin_29 ?_
        refine lv_aload_n hx hb dX5_isWithin_30 rfl (lv_at hl 0 rfl) ?_
        refine mg_7 X rfl hW dX5_isWithin_31 ?_
        refine lv_sipush (v := nI 169) hx hb dX5_isWithin_34 (by decide) ?_
        refine lv_iload hx hb dX5_isWithin_37 (lv_at hl 5 rfl) ?_
        refine n_iadd X dX5_isWithin_39 ?_
        refine m_ld (v := ((S.1 0) (169 + k))) X hW 0 (by decide) rfl (169 + k) rfl (by show 169 + k < 179; omega) rfl dX5_isWithin_40 ?_
        refine Cp.callS (v := .int (bI (inB (amI a b q t k) ((S.1 0) (165 + k)) ((S.1 0) (169 + k))))) (ct_X5_in l g (amI a b q t k) ((S.1 0) (165 + k)) ((S.1 0) (169 + k)) ) X hL hl sb_X5_in q1885 rfl rfl (Nat.le_of_ble_eq_true rfl) dX5_isWithin_41 ⟨Nat.le_of_ble_eq_true rfl, Nat.le_of_ble_eq_true rfl⟩ (by omega) (by omega) trivial (fun locs hL => ?_)
        refine b_ifne (tgt := 49) X dX5_isWithin_44 (by decide) (fun c_44 => ?_) (fun c_44 => ?_)
        ·
          refine lv_iinc (v := nI (k + 1)) (lv' := [(5, .int _), (0, .ref _), (1, .int _), (2, .int _), (3, .int _), (4, .int _)]) hx hb dX5_isWithin_49 hl (k := 5) rfl (nI_iinc _ 1 rfl) (by decide) rfl (fun ls hl => ?_)
          refine lv_goto (tgt := 3) hx hb dX5_isWithin_52 (by decide) ?_
          exact ih3 _ (by omega) (allB_s hv c_44) (by omega) _ hL ls (lv_sub hl [1, 2, 3, 4, 5, 0] rfl)
        ·
          refine lv_iconst (v := nI 0) hx hb dX5_isWithin_47 (by decide) ?_
          exact r_iret X hL rfl rfl dX5_isWithin_48 (by omega) (by omega) ⟨v_f (allB_false (k := k) c_44 4 c_6), rfl⟩
  exact L3 5 0 (by omega) rfl (by omega) _ hL ls (lv_sub hl [1, 2, 3, 4, 5, 0] rfl)
theorem vb_X5_isWithin : VB yX5_isWithin cX5_isWithin 6 (some .boolean) 4 := ⟨q2178, qs85, q111, q2179, ⟨by decide, by decide, by decide +kernel⟩⟩

set_option maxRecDepth 100000 in
set_option maxHeartbeats 4000000 in
theorem ct_X5_isUnbeaten (l : Launch) (g : GT) (o n : Nat) (S : MS) (a b q t : Int32) (hN : S.1 0 160 = nI n) (hn : n ≤ 40) : Ct l g yX5_isUnbeaten cX5_isUnbeaten 7 (some .boolean) 6 0 0 [.ref o, .int a, .int b, .int q, .int t] (MW g o S) (fun r H H1 => r = some (.int (bI (unB (S.1 0) n (amI a b q t)))) ∧ H1 = H) := by
  refine Ct.of (by decide) (Nat.le_of_ble_eq_true rfl) ?_
  intro p e s m args below meth c X hP ls hl
  have hx := X.1
  have hb := X.2.1
  have hKV := X.2.2.2.2.2.2.2.1.1
  have hL : ∀ q ∈ ([] : List Loc), gLo g ≤ q.base := fun _ h => by cases h
  have hl : lv_has ls 7 [(0, .ref o), (1, .int a), (2, .int b), (3, .int q), (4, .int t)] := hl
  have hW : MW g o S s.heap := hP
  have hO : Off o s.heap s.heap := Off.rfl'
  refine lv_aload_n hx hb dX5_isUnbeaten_0 rfl (lv_at hl 0 rfl) ?_
  refine lv_iload_n hx hb dX5_isUnbeaten_1 rfl (lv_at hl 1 rfl) ?_
  refine lv_iload_n hx hb dX5_isUnbeaten_2 rfl (lv_at hl 2 rfl) ?_
  refine lv_iload_n hx hb dX5_isUnbeaten_3 rfl (lv_at hl 3 rfl) ?_
  refine lv_iload hx hb dX5_isUnbeaten_4 (lv_at hl 4 rfl) ?_
  refine Cp.callV (v := .int (bI (couB (mle (S.1 0)) (mgr (S.1 0)) (amI a b q t)))) (ct_X5_isWithin l g o S a b q t ) X hL hl vb_X5_isWithin q2176 (hW.2.1.recv hKV rfl) rfl rfl (Nat.le_of_ble_eq_true rfl) dX5_isUnbeaten_6 ⟨Nat.le_of_ble_eq_true rfl, Nat.le_of_ble_eq_true rfl⟩ (by omega) (by omega) hW (fun locs hL => ?_)
  refine lv_istore (lv' := [(5, .int _), (0, .ref _), (1, .int _), (2, .int _), (3, .int _), (4, .int _)]) hx hb dX5_isUnbeaten_9 hl (by decide) rfl (fun ls hl => ?_)
  refine lv_iconst (v := nI 0) hx hb dX5_isUnbeaten_11 (by decide) ?_
  refine lv_istore (lv' := [(6, .int _), (5, .int _), (0, .ref _), (1, .int _), (2, .int _), (3, .int _), (4, .int _)]) hx hb dX5_isUnbeaten_12 hl (by decide) rfl (fun ls hl => ?_)
  have L14 : ∀ (fuel : Nat) (z : Bool) (k : Nat), n - k < fuel → (z = (couB (mle (S.1 0)) (mgr (S.1 0)) (amI a b q t) && allB (fun k => !cB (S.1 0) k || !decide (agN (mw (S.1 0)) (mv (S.1 0) k) (amI a b q t) = 1)) k)) → (k ≤ n) → ∀ (locs : List Loc), (∀ q ∈ locs, gLo g ≤ q.base) → ∀ (ls : Array Slot), lv_has ls 7 [(0, .ref o), (1, .int a), (2, .int b), (3, .int q), (4, .int t), (5, .int (bI z)), (6, .int (nI k))] → W p l e (rmL 6 0 0) s m args below meth c s.heap locs 0 0 (MQ below (Qcg (fun r H H1 => r = some (.int (bI (unB (S.1 0) n (amI a b q t)))) ∧ H1 = H)) args s 0 0 (fre g)) (F0 m 14 ls []) := by
    intro fuel
    induction fuel with
    | zero => intro z k hf; exact absurd hf (Nat.not_lt_zero _)
    | succ fuel ih14 =>
      intro z k hf hv hk  locs hL ls hl
      refine lv_iload hx hb dX5_isUnbeaten_14 (lv_at hl 6 rfl) ?_
      refine lv_aload_n hx hb dX5_isUnbeaten_16 rfl (lv_at hl 0 rfl) ?_
      refine mg_7 X rfl hW dX5_isUnbeaten_17 ?_
      refine lv_sipush (v := nI 160) hx hb dX5_isUnbeaten_20 (by decide) ?_
      refine m_ld (v := (nI n)) X hW 0 (by decide) rfl 160 rfl (by decide) (show (S.1 0) 160 = (nI n) from hN) dX5_isUnbeaten_23 ?_
      refine n_icmp_ge (tgt := 69) X dX5_isUnbeaten_24 (by decide) (by omega) (by omega) (fun c_24 => ?_) (fun c_24 => ?_)
      ·
        refine lv_iload hx hb dX5_isUnbeaten_69 (lv_at hl 5 rfl) ?_
        exact r_iret X hL rfl (narrow_bI _) dX5_isUnbeaten_71 (by omega) (by omega) ⟨v_b (by rw [hv, show k = n by omega]; rfl), rfl⟩
      ·
        refine lv_iload hx hb dX5_isUnbeaten_27 (lv_at hl 5 rfl) ?_
        refine b_ifeq (tgt := 69) X dX5_isUnbeaten_29 (by decide) (fun c_29 => ?_) (fun c_29 => ?_)
        ·
          refine lv_iload hx hb dX5_isUnbeaten_69 (lv_at hl 5 rfl) ?_
          exact r_iret X hL rfl (narrow_bI _) dX5_isUnbeaten_71 (by omega) (by omega) ⟨v_b (by rw [c_29]; exact (andB_f (hv.symm.trans c_29) hk).symm), rfl⟩
        ·
          refine lv_aload_n hx hb dX5_isUnbeaten_32 rfl (lv_at hl 0 rfl) ?_
          refine lv_iload hx hb dX5_isUnbeaten_33 (lv_at hl 6 rfl) ?_
          refine Cp.callV (v := .int (bI (cB (S.1 0) k))) (ct_X5_counts l g o k S (by omega)) X hL hl vb_X5_counts q1939 (hW.2.1.recv hKV rfl) rfl rfl (Nat.le_of_ble_eq_true rfl) dX5_isUnbeaten_35 ⟨Nat.le_of_ble_eq_true rfl, Nat.le_of_ble_eq_true rfl⟩ (by omega) (by omega) hW (fun locs hL => ?_)
          refine b_ifeq (tgt := 56) X dX5_isUnbeaten_38 (by decide) (fun c_38 => ?_) (fun c_38 => ?_)
          ·
            refine lv_iconst (v := nI 1) hx hb dX5_isUnbeaten_56 (by decide) ?_
            refine lv_goto (tgt := 61) hx hb dX5_isUnbeaten_57 (by decide) ?_
            refine lv_istore (lv' := [(5, .int _), (0, .ref _), (1, .int _), (2, .int _), (3, .int _), (4, .int _), (6, .int _)]) hx hb dX5_isUnbeaten_61 hl (by decide) rfl (fun ls hl => ?_)
            refine lv_iinc (v := nI (k + 1)) (lv' := [(6, .int _), (5, .int _), (0, .ref _), (1, .int _), (2, .int _), (3, .int _), (4, .int _)]) hx hb dX5_isUnbeaten_63 hl (k := 6) rfl (nI_iinc _ 1 rfl) (by decide) rfl (fun ls hl => ?_)
            refine lv_goto (tgt := 14) hx hb dX5_isUnbeaten_66 (by decide) ?_
            exact ih14 true (k + 1) (by omega) (by rw [hv] at c_29; rw [allB_1, ← Bool.and_assoc, c_29]; simp [c_24, c_29, c_38]) (by omega) _ hL ls (lv_sub hl [2, 3, 4, 5, 6, 1, 0] rfl)
          ·
            refine lv_aload_n hx hb dX5_isUnbeaten_41 rfl (lv_at hl 0 rfl) ?_
            refine lv_iload hx hb dX5_isUnbeaten_42 (lv_at hl 6 rfl) ?_
            refine lv_iload_n hx hb dX5_isUnbeaten_44 rfl (lv_at hl 1 rfl) ?_
            refine lv_iload_n hx hb dX5_isUnbeaten_45 rfl (lv_at hl 2 rfl) ?_
            refine lv_iload_n hx hb dX5_isUnbeaten_46 rfl (lv_at hl 3 rfl) ?_
            refine lv_iload hx hb dX5_isUnbeaten_47 (lv_at hl 4 rfl) ?_
            refine Cp.callV (v := .int (nI (agN (mw (S.1 0)) (mv (S.1 0) k) (amI a b q t)))) (ct_X5_against l g o k S a b q t (by omega)) X hL hl vb_X5_against q2183 (hW.2.1.recv hKV rfl) rfl rfl (Nat.le_of_ble_eq_true rfl) dX5_isUnbeaten_49 ⟨Nat.le_of_ble_eq_true rfl, Nat.le_of_ble_eq_true rfl⟩ (by omega) (by omega) hW (fun locs hL => ?_)
            refine lv_iconst (v := nI 1) hx hb dX5_isUnbeaten_52 (by decide) ?_
            have hag := agN_le (mw (S.1 0)) (mv (S.1 0) k) (amI a b q t)
            refine n_icmp_eq (tgt := 60) X dX5_isUnbeaten_53 (by decide) (by omega) (by omega) (fun c_53 => ?_) (fun c_53 => ?_)
            ·
              refine lv_iconst (v := nI 0) hx hb dX5_isUnbeaten_60 (by decide) ?_
              refine lv_istore (lv' := [(5, .int _), (0, .ref _), (1, .int _), (2, .int _), (3, .int _), (4, .int _), (6, .int _)]) hx hb dX5_isUnbeaten_61 hl (by decide) rfl (fun ls hl => ?_)
              refine lv_iinc (v := nI (k + 1)) (lv' := [(6, .int _), (5, .int _), (0, .ref _), (1, .int _), (2, .int _), (3, .int _), (4, .int _)]) hx hb dX5_isUnbeaten_63 hl (k := 6) rfl (nI_iinc _ 1 rfl) (by decide) rfl (fun ls hl => ?_)
              refine lv_goto (tgt := 14) hx hb dX5_isUnbeaten_66 (by decide) ?_
              exact ih14 false (k + 1) (by omega) (by rw [hv] at c_29; rw [allB_1, ← Bool.and_assoc, c_29]; simp [c_24, c_29, c_38, c_53]) (by omega) _ hL ls (lv_sub hl [2, 3, 4, 5, 6, 1, 0] rfl)
            ·
              refine lv_iconst (v := nI 1) hx hb dX5_isUnbeaten_56 (by decide) ?_
              refine lv_goto (tgt := 61) hx hb dX5_isUnbeaten_57 (by decide) ?_
              refine lv_istore (lv' := [(5, .int _), (0, .ref _), (1, .int _), (2, .int _), (3, .int _), (4, .int _), (6, .int _)]) hx hb dX5_isUnbeaten_61 hl (by decide) rfl (fun ls hl => ?_)
              refine lv_iinc (v := nI (k + 1)) (lv' := [(6, .int _), (5, .int _), (0, .ref _), (1, .int _), (2, .int _), (3, .int _), (4, .int _)]) hx hb dX5_isUnbeaten_63 hl (k := 6) rfl (nI_iinc _ 1 rfl) (by decide) rfl (fun ls hl => ?_)
              refine lv_goto (tgt := 14) hx hb dX5_isUnbeaten_66 (by decide) ?_
              exact ih14 true (k + 1) (by omega) (by rw [hv] at c_29; rw [allB_1, ← Bool.and_assoc, c_29]; simp [c_24, c_29, c_38, c_53]) (by omega) _ hL ls (lv_sub hl [2, 3, 4, 5, 6, 1, 0] rfl)
  exact L14 (n + 1) (couB (mle (S.1 0)) (mgr (S.1 0)) (amI a b q t)) 0 (by omega) (by simp [allB_0]) (by omega) _ hL ls (lv_sub hl [2, 3, 4, 5, 6, 1, 0] rfl)
theorem vb_X5_isUnbeaten : VB yX5_isUnbeaten cX5_isUnbeaten 7 (some .boolean) 4 := ⟨q2174, qs84, q111, q2175, ⟨by decide, by decide, by decide +kernel⟩⟩

set_option maxRecDepth 100000 in
set_option maxHeartbeats 4000000 in
theorem ct_X5_allBeatings (l : Launch) (g : GT) (o n : Nat) (S : MS) (hN : S.1 0 160 = nI n) (hn : n ≤ 40) : Ct l g yX5_allBeatings cX5_allBeatings 3 (some .int) 7 0 0 [.ref o] (MW g o S) (fun r H H1 => r = some (.int (nI (sumN (beaN (S.1 0) n) n))) ∧ H1 = H) := by
  refine Ct.of (by decide) (Nat.le_of_ble_eq_true rfl) ?_
  intro p e s m args below meth c X hP ls hl
  have hx := X.1
  have hb := X.2.1
  have hKV := X.2.2.2.2.2.2.2.1.1
  have hL : ∀ q ∈ ([] : List Loc), gLo g ≤ q.base := fun _ h => by cases h
  have hl : lv_has ls 3 [(0, .ref o)] := hl
  have hW : MW g o S s.heap := hP
  have hO : Off o s.heap s.heap := Off.rfl'
  refine lv_iconst (v := nI 0) hx hb dX5_allBeatings_0 (by decide) ?_
  refine lv_istore_n (lv' := [(1, .int _), (0, .ref _)]) hx hb dX5_allBeatings_1 rfl hl (by decide) rfl (fun ls hl => ?_)
  refine lv_iconst (v := nI 0) hx hb dX5_allBeatings_2 (by decide) ?_
  refine lv_istore_n (lv' := [(2, .int _), (1, .int _), (0, .ref _)]) hx hb dX5_allBeatings_3 rfl hl (by decide) rfl (fun ls hl => ?_)
  have L4 : ∀ (fuel : Nat) (v k : Nat), n - k < fuel → (v = sumN (beaN (S.1 0) n) k) → (k ≤ n) → ∀ (locs : List Loc), (∀ q ∈ locs, gLo g ≤ q.base) → ∀ (ls : Array Slot), lv_has ls 3 [(0, .ref o), (1, .int (nI v)), (2, .int (nI k))] → W p l e (rmL 7 0 0) s m args below meth c s.heap locs 0 0 (MQ below (Qcg (fun r H H1 => r = some (.int (nI (sumN (beaN (S.1 0) n) n))) ∧ H1 = H)) args s 0 0 (fre g)) (F0 m 4 ls []) := by
    intro fuel
    induction fuel with
    | zero => intro v k hf; exact absurd hf (Nat.not_lt_zero _)
    | succ fuel ih4 =>
      intro v k hf hv hk  locs hL ls hl
      refine lv_iload_n hx hb dX5_allBeatings_4 rfl (lv_at hl 2 rfl) ?_
      refine lv_aload_n hx hb dX5_allBeatings_5 rfl (lv_at hl 0 rfl) ?_
      refine mg_7 X rfl hW dX5_allBeatings_6 ?_
      refine lv_sipush (v := nI 160) hx hb dX5_allBeatings_9 (by decide) ?_
      refine m_ld (v := (nI n)) X hW 0 (by decide) rfl 160 rfl (by decide) (show (S.1 0) 160 = (nI n) from hN) dX5_allBeatings_12 ?_
      refine n_icmp_ge (tgt := 30) X dX5_allBeatings_13 (by decide) (by omega) (by omega) (fun c_13 => ?_) (fun c_13 => ?_)
      ·
        refine lv_iload_n hx hb dX5_allBeatings_30 rfl (lv_at hl 1 rfl) ?_
        exact r_iret X hL rfl rfl dX5_allBeatings_31 (by omega) (by omega) ⟨v_n (by rw [hv, show k = n by omega]), rfl⟩
      ·
        refine lv_iload_n hx hb dX5_allBeatings_16 rfl (lv_at hl 1 rfl) ?_
        refine lv_aload_n hx hb dX5_allBeatings_17 rfl (lv_at hl 0 rfl) ?_
        refine lv_iload_n hx hb dX5_allBeatings_18 rfl (lv_at hl 2 rfl) ?_
        refine Cp.callV (v := .int (nI (cnt (beatB (S.1 0) k) n))) (ct_X5_beaten l g o n k S hN hn (by omega)) X hL hl vb_X5_beaten q2103 (hW.2.1.recv hKV rfl) rfl rfl (Nat.le_of_ble_eq_true rfl) dX5_allBeatings_19 ⟨Nat.le_of_ble_eq_true rfl, Nat.le_of_ble_eq_true rfl⟩ (by omega) (by omega) hW (fun locs hL => ?_)
        refine n_iadd X dX5_allBeatings_22 ?_
        refine lv_istore_n (lv' := [(1, .int _), (0, .ref _), (2, .int _)]) hx hb dX5_allBeatings_23 rfl hl (by decide) rfl (fun ls hl => ?_)
        refine lv_iinc (v := nI (k + 1)) (lv' := [(2, .int _), (1, .int _), (0, .ref _)]) hx hb dX5_allBeatings_24 hl (k := 2) rfl (nI_iinc _ 1 rfl) (by decide) rfl (fun ls hl => ?_)
        refine lv_goto (tgt := 4) hx hb dX5_allBeatings_27 (by decide) ?_
        exact ih4 _ _ (by omega) (by rw [hv]; rfl) (by omega) _ hL ls (lv_sub hl [2, 1, 0] rfl)
  exact L4 (n + 1) 0 0 (by omega) rfl (by omega) _ hL ls (lv_sub hl [2, 1, 0] rfl)
theorem vb_X5_allBeatings : VB yX5_allBeatings cX5_allBeatings 3 (some .int) 0 := ⟨q2271, qs94, q111, q2272, ⟨by decide, by decide, by decide +kernel⟩⟩

set_option maxRecDepth 100000 in
set_option maxHeartbeats 4000000 in
theorem ct_X5_mix (l : Launch) (g : GT) (o : Nat) (S : MS) (v : Int64)  : Ct l g yX5_mix cX5_mix 3 none 1 0 0 [.ref o, .long v] (MW g o S) (fun r H H1 => r = none ∧ MW g o (uH S (31 * S.2.2 + v)) H1 ∧ Off o H H1) := by
  refine Ct.of (by decide) (Nat.le_of_ble_eq_true rfl) ?_
  intro p e s m args below meth c X hP ls hl
  have hx := X.1
  have hb := X.2.1
  have hKV := X.2.2.2.2.2.2.2.1.1
  have hL : ∀ q ∈ ([] : List Loc), gLo g ≤ q.base := fun _ h => by cases h
  have hl : lv_has ls 3 [(0, .ref o), (1, .long v)] := hl
  have hW : MW g o S s.heap := hP
  have hO : Off o s.heap s.heap := Off.rfl'
  refine lv_aload_n hx hb dX5_mix_0 rfl (lv_at hl 0 rfl) ?_
  refine lv_ldc2 hx hb X.2.2.2.1 (X.2.2.2.2.1 _ q2286) dX5_mix_1 ?_
  refine lv_aload_n hx hb dX5_mix_4 rfl (lv_at hl 0 rfl) ?_
  refine mg_225 X rfl hW dX5_mix_5 (W.stkL (w := S.2.2) rfl ?_)
  refine lv_lmul hx hb dX5_mix_8 ?_
  refine lv_lload_n hx hb dX5_mix_9 rfl (lv_at hl 1 rfl) ?_
  refine lv_ladd hx hb dX5_mix_10 ?_
  refine mp_225 X rfl hL hW dX5_mix_11 (fun H locs hL hW hO1 => ?_)
  have hO := hO.trans hO1
  have hW := MW.cast (S1 := uH S ((31 * S.2.2) + v)) hW ⟨rfl, rfl, rfl, rfl, rfl, rfl, rfl, rfl, rfl, rfl, rfl, rfl, rfl, rfl, rfl, rfl, rfl⟩
  exact r_vret X hL dX5_mix_14 (by omega) (by omega) ⟨rfl, (MW.cast hW ⟨rfl, rfl, rfl, rfl, rfl, rfl, rfl, rfl, rfl, rfl, rfl, rfl, rfl, rfl, rfl, rfl, rfl⟩), hO⟩
theorem vb_X5_mix : VB yX5_mix cX5_mix 3 none 1 := ⟨q2284, qs95, q111, q2285, ⟨by decide, by decide, by decide +kernel⟩⟩
