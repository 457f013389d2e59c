/-! the state: rows -/
theorem maxN_t {F : Nat → Nat} {k v : Nat} (h : F k = v) : max (maxN F k) v = maxN F (k + 1) := by
  have e : maxN F (k + 1) = if maxN F k < F k then F k else maxN F k := rfl
  rw [e, h]; split <;> omega
theorem maxN_z {F : Nat → Nat} {k : Nat} (h : F k = 0) : maxN F k = maxN F (k + 1) := by
  have : maxN F (k + 1) = if maxN F k < F k then F k else maxN F k := rfl
  rw [this, h, if_neg (Nat.not_lt_zero _)]
/-- where a pass stands: it began at R0, the first k are done -/
def RwI (ro : Nat → Int32) (n : Nat) (R0 : Nat → Nat) (k : Nat) (R : Nat → Nat) (b : Bool) : Prop := InvR ro n R ∧ lckN ro n R ≤ lckN ro n R0 ∧ (b = true → lckN ro n R < lckN ro n R0) ∧ (b = false → (∀ j, j < n → R j = R0 j) ∧ ∀ j, j < k → FrN ro n R0 j = R0 j)
theorem RwI.zero {ro : Nat → Int32} {n : Nat} {R : Nat → Nat} (h : InvR ro n R) : RwI ro n R 0 R false := ⟨h, Nat.le_refl _, fun z => (by cases z), fun _ => ⟨fun _ _ => rfl, fun j hj => absurd hj (Nat.not_lt_zero _)⟩⟩
theorem RwI.eq {ro : Nat → Int32} {n : Nat} {R0 R : Nat → Nat} {k : Nat} {b : Bool} (h : RwI ro n R0 k R b) (hk : k < n) (e : FrN ro n R k = R k) : RwI ro n R0 (k + 1) (va_up R k (FrN ro n R k)) (b || false) := by
  rw [uu_self e, Bool.or_false]
  obtain ⟨h1, h2, h3, h4⟩ := h
  refine ⟨h1, h2, h3, fun z => ⟨(h4 z).1, fun j hj => ?_⟩⟩
  by_cases q : j = k
  · rw [q, ← Fr_congr (h4 z).1 k, e, (h4 z).1 k hk]
  · exact (h4 z).2 j (by omega)
theorem RwI.ne {ro : Nat → Int32} {n : Nat} {R0 R : Nat → Nat} {k : Nat} {b : Bool} (hR : RO ro n) (h : RwI ro n R0 k R b) (hk : k < n) (e : ¬ FrN ro n R k = R k) : RwI ro n R0 (k + 1) (va_up R k (FrN ro n R k)) (b || true) := by
  obtain ⟨h1, h2, h3, h4⟩ := h
  have hl := lck_step hR h1 hk e
  refine ⟨h1.step hR hk, by omega, fun _ => by omega, fun z => ?_⟩
  rw [Bool.or_true] at z; cases z
theorem rw_up {n k v : Nat} {R : Nat → Nat} {f : Nat → Int32} (h : ∀ j, j < n → f j = nI (R j)) : ∀ j, j < n → upd f k (nI v) j = nI (va_up R k v j) := fun j hj => by
  unfold va_up
  by_cases e : j = k
  · rw [if_pos e, e, pk_us]
  · rw [if_neg e, pk_un e]; exact h j hj

set_option maxRecDepth 100000 in
set_option maxHeartbeats 4000000 in
theorem ct_X2_rowTo (l : Launch) (g : GT) (ro : Nat → Int32) (n : Nat) (x : Nat → Nat) (a : Nat) (i ra : Nat) (f : Nat → Int32) (R : Nat → Nat) (hn : n ≤ 40) (hw : WO (mw ro)) (hi : i < n) (hf : ∀ j, j < n → f j = nI (R j)) (hb2 : ∀ j, j < n → R j ≤ 400) : Ct l g yX2_rowTo cX2_rowTo 6 (some .int) 7 0 0 [.ref a, .int (nI i), .ref ra] (fun H => StQ g ro n x a H ∧ Ar g ra 0 n f H) (fun r H H1 => r = some (.int (nI (maxN (fun j => if cB ro j && abv ro (nI 15) j i then R j else 0) n + 1))) ∧ H1 = H) := by
  refine Ct.of (by decide) (Nat.le_of_ble_eq_true rfl) ?_
  intro p e s m args below meth c X hP ls hl
  have hx := X.1
  have hb := X.2.1
  have hKV := X.2.2.2.2.2.2.2.1.1
  have hL : ∀ q ∈ ([] : List Loc), gLo g ≤ q.base := fun _ h => by cases h
  obtain ⟨hst, har⟩ := hP
  have hst9 := hst
  obtain ⟨sb, sd, PB, PS, ob, hbg, hsd, hof, hinj⟩ := hst9
  have hl : lv_has ls 6 [(0, .ref a), (1, .int (nI i)), (2, .ref ra)] := hl
  have hrl : (List.range n).length ≤ 40 := by rw [rng_len]; exact hn
  refine lv_iconst (v := nI 0) hx hb dX2_rowTo_0 (by decide) ?_
  refine lv_istore_n (lv' := [(3, .int _), (0, .ref _), (1, .int _), (2, .ref _)]) hx hb dX2_rowTo_1 rfl hl (by decide) rfl (fun ls hl => ?_)
  refine lv_iconst (v := nI 0) hx hb dX2_rowTo_2 (by decide) ?_
  refine lv_istore (lv' := [(4, .int _), (3, .int _), (0, .ref _), (1, .int _), (2, .ref _)]) hx hb dX2_rowTo_3 hl (by decide) rfl (fun ls hl => ?_)
  have L5 : ∀ (fuel : Nat) (k : Nat), n - k < fuel → (k ≤ n) → ∀ (locs : List Loc), (∀ q ∈ locs, gLo g ≤ q.base) → ∀ (ls : Array Slot), lv_has ls 6 [(0, .ref a), (1, .int (nI i)), (2, .ref ra), (3, .int (nI (maxN (fun j => if cB ro j && abv ro (nI 15) j i then R j else 0) k))), (4, .int (nI k))] → W p l e (rmL 7 0 0) s m args below meth c s.heap locs 0 0 (MQ below (Qcg (fun r H H1 => r = some (.int (nI (maxN (fun j => if cB ro j && abv ro (nI 15) j i then R j else 0) n + 1))) ∧ H1 = H)) args s 0 0 (fre g)) (F0 m 5 ls []) := by
    intro fuel
    induction fuel with
    | zero => intro k hfu; exact absurd hfu (Nat.not_lt_zero _)
    | succ fuel ih5 =>
      intro k hfu hk  locs hL ls hl
      have hmx : maxN (fun j => if cB ro j && abv ro (nI 15) j i then R j else 0) k ≤ 400 := maxN_le (fun j hj => by have := hb2 j (by omega); split <;> omega)
      refine lv_iload hx hb dX2_rowTo_5 (lv_at hl 4 rfl) ?_
      refine lv_aload_n hx hb dX2_rowTo_7 rfl (lv_at hl 0 rfl) ?_
      refine r_get (C := RX2) (T := TX2) (N := 4) (ci := 2) X in_X2 rfl 0 (Nat.le_of_ble_eq_true rfl) q210 (fun _ h => h) ob rfl dX2_rowTo_8 ?_
      refine Cp.callV (v := .int (nI ((List.range n).length))) (ct_X3_size l g PB (XL x (List.range n)) ((List.range n).length) sb ) X hL hl vb_X3_size q564 (hbg.recv hKV) rfl rfl (Nat.le_of_ble_eq_true rfl) dX2_rowTo_11 ⟨Nat.le_of_ble_eq_true rfl, Nat.le_of_ble_eq_true rfl⟩ (by omega) (by omega) hbg (fun locs hL => ?_)
      rw [rng_len]
      refine n_icmp_ge (tgt := 87) X dX2_rowTo_14 (by decide) (by omega) (by omega) (fun c_14 => ?_) (fun c_14 => ?_)
      ·
        refine lv_iload_n hx hb dX2_rowTo_87 rfl (lv_at hl 3 rfl) ?_
        refine lv_iconst (v := nI 1) hx hb dX2_rowTo_88 (by decide) ?_
        refine n_iadd X dX2_rowTo_89 ?_
        exact r_iret X hL rfl rfl dX2_rowTo_90 (by omega) (by omega) ⟨by rw [show k = n by omega], rfl⟩
      ·
        refine lv_aload_n hx hb dX2_rowTo_17 rfl (lv_at hl 0 rfl) ?_
        refine r_get (C := RX2) (T := TX2) (N := 4) (ci := 2) X in_X2 rfl 1 (Nat.le_of_ble_eq_true rfl) q212 (fun _ h => h) ob rfl dX2_rowTo_18 ?_
        refine lv_aload_n hx hb dX2_rowTo_21 rfl (lv_at hl 0 rfl) ?_
        refine lv_iload hx hb dX2_rowTo_22 (lv_at hl 4 rfl) ?_
        refine Cp.callV (v := .ref (x k)) (ct_X2_get l g ro n x a k hn (by omega)) X hL hl vb_X2_get q1168 (hst.recv hKV) rfl rfl (Nat.le_of_ble_eq_true rfl) dX2_rowTo_24 ⟨Nat.le_of_ble_eq_true rfl, Nat.le_of_ble_eq_true rfl⟩ (by omega) (by omega) hst (fun locs hL => ?_)
        obtain ⟨Ik, hqk⟩ := hof k (rng_mem (by omega))
        refine Cp.callV (v := .int (bI (couB (mle ro) (mgr ro) (mv ro k)))) (ct_X4_counts l g PS ro sd Ik (mv ro k) (x k) ) X hL hl vb_X4_counts q534 (hsd.recv hKV) rfl rfl (Nat.le_of_ble_eq_true rfl) dX2_rowTo_27 ⟨Nat.le_of_ble_eq_true rfl, Nat.le_of_ble_eq_true rfl⟩ (by omega) (by omega) ⟨hsd, hqk⟩ (fun locs hL => ?_)
        refine b_ifeq (tgt := 60) X dX2_rowTo_30 (by decide) (fun c_30 => ?_) (fun c_30 => ?_)
        ·
          refine lv_iconst (v := nI 0) hx hb dX2_rowTo_60 (by decide) ?_
          refine lv_istore (lv' := [(5, .int _), (0, .ref _), (1, .int _), (2, .ref _), (3, .int _), (4, .int _)]) hx hb dX2_rowTo_61 hl (by decide) rfl (fun ls hl => ?_)
          refine lv_iload hx hb dX2_rowTo_63 (lv_at hl 0 rfl) ?_
          refine n_ifeq (tgt := 79) X dX2_rowTo_65 (by decide) (by omega) (fun c_65 => ?_) (fun c_65 => ?_)
          ·
            refine lv_iload_n hx hb dX2_rowTo_79 rfl (lv_at hl 4 rfl) ?_
            refine W.stk (w := (nI (maxN (fun j => if cB ro j && abv ro (nI 15) j i then R j else 0) (k + 1)))) (by rw [maxN_z (F := (fun j => if cB ro j && abv ro (nI 15) j i then R j else 0)) (by rw [if_neg]; first | (rw [show cB ro k = false from c_30]; simp; done) | (rw [show abv ro (nI 15) k i = false from c_53]; simp; done))]) ?_
            refine lv_istore_n (lv' := [(3, .int _), (5, .int _), (0, .ref _), (1, .int _), (2, .ref _), (4, .int _)]) hx hb dX2_rowTo_80 rfl hl (by decide) rfl (fun ls hl => ?_)
            refine lv_iinc (v := nI (k + 1)) (lv' := [(4, .int _), (3, .int _), (5, .int _), (0, .ref _), (1, .int _), (2, .ref _)]) hx hb dX2_rowTo_81 hl (k := 5) rfl (nI_iinc _ 1 rfl) (by decide) rfl (fun ls hl => ?_)
            refine lv_goto (tgt := 5) hx hb dX2_rowTo_84 (by decide) ?_
            exact ih5 (k + 1) (by omega) (by omega) _ hL ls (lv_sub hl [3, 4, 5, 1, 0] rfl)
          ·
            exact absurd c_65 (by decide)
        ·
          refine lv_aload_n hx hb dX2_rowTo_33 rfl (lv_at hl 0 rfl) ?_
          refine r_get (C := RX2) (T := TX2) (N := 4) (ci := 2) X in_X2 rfl 1 (Nat.le_of_ble_eq_true rfl) q212 (fun _ h => h) ob rfl dX2_rowTo_34 ?_
          refine lv_aload_n hx hb dX2_rowTo_37 rfl (lv_at hl 0 rfl) ?_
          refine lv_iload hx hb dX2_rowTo_38 (lv_at hl 4 rfl) ?_
          refine Cp.callV (v := .ref (x k)) (ct_X2_get l g ro n x a k hn (by omega)) X hL hl vb_X2_get q1168 (hst.recv hKV) rfl rfl (Nat.le_of_ble_eq_true rfl) dX2_rowTo_40 ⟨Nat.le_of_ble_eq_true rfl, Nat.le_of_ble_eq_true rfl⟩ (by omega) (by omega) hst (fun locs hL => ?_)
          refine lv_aload_n hx hb dX2_rowTo_43 rfl (lv_at hl 0 rfl) ?_
          refine lv_iload_n hx hb dX2_rowTo_44 rfl (lv_at hl 1 rfl) ?_
          refine Cp.callV (v := .ref (x i)) (ct_X2_get l g ro n x a i hn hi) X hL hl vb_X2_get q1168 (hst.recv hKV) rfl rfl (Nat.le_of_ble_eq_true rfl) dX2_rowTo_45 ⟨Nat.le_of_ble_eq_true rfl, Nat.le_of_ble_eq_true rfl⟩ (by omega) (by omega) hst (fun locs hL => ?_)
          obtain ⟨Ii, hqi⟩ := hof i (rng_mem (by omega))
          refine lv_bipush (v := nI 15) hx hb dX2_rowTo_48 (by decide) ?_
          refine Cp.callV (v := .int (bI (beyB (mw ro) (mv ro k) (mv ro i) (swB (mw ro) (nI 15))))) (ct_X4_isAbove l g PS ro sd Ik (mv ro k) (x k) Ii (mv ro i) (x i) (nI 15) hw) X hL hl vb_X4_isAbove q573 (hsd.recv hKV) rfl rfl (Nat.le_of_ble_eq_true rfl) dX2_rowTo_50 ⟨Nat.le_of_ble_eq_true rfl, Nat.le_of_ble_eq_true rfl⟩ (by omega) (by omega) ⟨hsd, hqk, hqi⟩ (fun locs hL => ?_)
          refine b_ifeq (tgt := 60) X dX2_rowTo_53 (by decide) (fun c_53 => ?_) (fun c_53 => ?_)
          ·
            refine lv_iconst (v := nI 0) hx hb dX2_rowTo_60 (by decide) ?_
            refine lv_istore (lv' := [(5, .int _), (0, .ref _), (1, .int _), (2, .ref _), (3, .int _), (4, .int _)]) hx hb dX2_rowTo_61 hl (by decide) rfl (fun ls hl => ?_)
            refine lv_iload hx hb dX2_rowTo_63 (lv_at hl 0 rfl) ?_
            refine n_ifeq (tgt := 79) X dX2_rowTo_65 (by decide) (by omega) (fun c_65 => ?_) (fun c_65 => ?_)
            ·
              refine lv_iload_n hx hb dX2_rowTo_79 rfl (lv_at hl 4 rfl) ?_
              refine W.stk (w := (nI (maxN (fun j => if cB ro j && abv ro (nI 15) j i then R j else 0) (k + 1)))) (by rw [maxN_z (F := (fun j => if cB ro j && abv ro (nI 15) j i then R j else 0)) (by rw [if_neg]; first | (rw [show cB ro k = false from c_30]; simp; done) | (rw [show abv ro (nI 15) k i = false from c_53]; simp; done))]) ?_
              refine lv_istore_n (lv' := [(3, .int _), (5, .int _), (0, .ref _), (1, .int _), (2, .ref _), (4, .int _)]) hx hb dX2_rowTo_80 rfl hl (by decide) rfl (fun ls hl => ?_)
              refine lv_iinc (v := nI (k + 1)) (lv' := [(4, .int _), (3, .int _), (5, .int _), (0, .ref _), (1, .int _), (2, .ref _)]) hx hb dX2_rowTo_81 hl (k := 5) rfl (nI_iinc _ 1 rfl) (by decide) rfl (fun ls hl => ?_)
              refine lv_goto (tgt := 5) hx hb dX2_rowTo_84 (by decide) ?_
              exact ih5 (k + 1) (by omega) (by omega) _ hL ls (lv_sub hl [3, 4, 5, 1, 0] rfl)
            ·
              exact absurd c_65 (by decide)
          ·
            refine lv_iconst (v := nI 1) hx hb dX2_rowTo_56 (by decide) ?_
            refine lv_goto (tgt := 61) hx hb dX2_rowTo_57 (by decide) ?_
            refine lv_istore (lv' := [(5, .int _), (0, .ref _), (1, .int _), (2, .ref _), (3, .int _), (4, .int _)]) hx hb dX2_rowTo_61 hl (by decide) rfl (fun ls hl => ?_)
            refine lv_iload hx hb dX2_rowTo_63 (lv_at hl 0 rfl) ?_
            refine n_ifeq (tgt := 79) X dX2_rowTo_65 (by decide) (by omega) (fun c_65 => ?_) (fun c_65 => ?_)
            ·
              exact absurd c_65 (by decide)
            ·
              refine lv_iload_n hx hb dX2_rowTo_68 rfl (lv_at hl 4 rfl) ?_
              refine lv_aload_n hx hb dX2_rowTo_69 rfl (lv_at hl 3 rfl) ?_
              refine lv_iload hx hb dX2_rowTo_70 (lv_at hl 5 rfl) ?_
              refine r_ild X har k (nI_cl (by omega) rfl) (nI_nn (by omega) rfl) (by omega) dX2_rowTo_72 ?_
              rw [show f k = (nI (R k)) from (hf k (by omega))]
              have hrk := hb2 k (by omega)
              refine va_mmax hx hb (X.2.2.1.trans hl.1.symm) X.2.2.2.1 (X.2.2.2.2.1 _ q1085) (X.2.2.2.2.1 _ q380) (X.2.2.2.2.1 _ q120) (X.2.2.2.2.1 _ q381) (Nat.le_of_ble_eq_true rfl) (Nat.le_of_ble_eq_true rfl) (by show 0 ≤ 0; omega) (by show 0 ≤ 0; omega) dX2_rowTo_73 ?_
              refine W.stk (w := mxI (nI (maxN (fun j => if cB ro j && abv ro (nI 15) j i then R j else 0) k)) (nI (R k))) rfl ?_
              refine W.stk (w := (nI (maxN (fun j => if cB ro j && abv ro (nI 15) j i then R j else 0) (k + 1)))) ((mxI_n (by omega) (by omega)).trans (by rw [maxN_t (F := (fun j => if cB ro j && abv ro (nI 15) j i then R j else 0)) (by rw [if_pos]; rw [show cB ro k = true from c_30, show abv ro (nI 15) k i = true from c_53]; rfl)])) ?_
              refine lv_goto (tgt := 80) hx hb dX2_rowTo_76 (by decide) ?_
              refine lv_istore_n (lv' := [(3, .int _), (5, .int _), (0, .ref _), (1, .int _), (2, .ref _), (4, .int _)]) hx hb dX2_rowTo_80 rfl hl (by decide) rfl (fun ls hl => ?_)
              refine lv_iinc (v := nI (k + 1)) (lv' := [(4, .int _), (3, .int _), (5, .int _), (0, .ref _), (1, .int _), (2, .ref _)]) hx hb dX2_rowTo_81 hl (k := 5) rfl (nI_iinc _ 1 rfl) (by decide) rfl (fun ls hl => ?_)
              refine lv_goto (tgt := 5) hx hb dX2_rowTo_84 (by decide) ?_
              exact ih5 (k + 1) (by omega) (by omega) _ hL ls (lv_sub hl [3, 4, 5, 1, 0] rfl)
  exact L5 (n + 1) 0 (by omega) (by omega) _ hL ls (lv_sub hl [2, 3, 4, 1, 0] rfl)
theorem vb_X2_rowTo : VB yX2_rowTo cX2_rowTo 6 (some .int) 2 := ⟨q1174, qs30, q100, q1175, ⟨by decide, by decide, by decide +kernel⟩⟩

set_option maxRecDepth 100000 in
set_option maxHeartbeats 4000000 in
theorem ct_X2_rowsByBeating (l : Launch) (g : GT) (ro : Nat → Int32) (n : Nat) (x : Nat → Nat) (a : Nat) (hn : n ≤ 40) (hw : WO (mw ro)) (hR : RO ro n) : Ct l g yX2_rowsByBeating cX2_rowsByBeating 5 (some (.array .int)) 9 1 40 [.ref a] (fun H => StQ g ro n x a H) (fun r H H1 => ∃ (lb : Nat) (f : Nat → Int32), (Ar g lb 0 n f H1 ∧ H.size ≤ lb ∧ ∀ j, j < n → f j = nI (LY ro n j)) ∧ r = some (.ref lb) ∧ Ext H H1) := by
  refine Ct.of (by decide) (Nat.le_of_ble_eq_true rfl) ?_
  intro p e s m args below meth c X hP ls hl
  have hx := X.1
  have hb := X.2.1
  have hKV := X.2.2.2.2.2.2.2.1.1
  have hL : ∀ q ∈ ([] : List Loc), gLo g ≤ q.base := fun _ h => by cases h
  have hst := hP
  have hst9 := hst
  obtain ⟨sb, sd, PB, PS, ob, hbg, hsd, hof, hinj⟩ := hst9
  have hl : lv_has ls 5 [(0, .ref a)] := hl
  have hrl : (List.range n).length ≤ 40 := by rw [rng_len]; exact hn
  have hE : Ext s.heap s.heap := Ext.rfl'
  have ob0 := ob
  have hst0 := hst
  have hof0 := hof
  have hbg0 := hbg
  have hsd0 := hsd
  refine lv_aload_n hx hb dX2_rowsByBeating_0 rfl (lv_at hl 0 rfl) ?_
  refine r_get (C := RX2) (T := TX2) (N := 4) (ci := 2) X in_X2 rfl 0 (Nat.le_of_ble_eq_true rfl) q210 (fun _ h => h) ob rfl dX2_rowsByBeating_1 ?_
  refine Cp.callV (v := .int (nI ((List.range n).length))) (ct_X3_size l g PB (XL x (List.range n)) ((List.range n).length) sb ) X hL hl vb_X3_size q564 (hbg.recv hKV) rfl rfl (Nat.le_of_ble_eq_true rfl) dX2_rowsByBeating_4 ⟨Nat.le_of_ble_eq_true rfl, Nat.le_of_ble_eq_true rfl⟩ (by omega) (by omega) hbg (fun locs hL => ?_)
  rw [rng_len]
  obtain ⟨b1, hb1⟩ : ∃ b, s.heap.size = b := ⟨_, rfl⟩
  have sz_b1 : s.heap.size ≤ b1 := by rw [← hb1]; exact Nat.le_refl _
  have lo_b1 : gLo g ≤ b1 := Nat.le_trans X.2.2.2.2.2.2.2.1.2.1 sz_b1
  have ne_a_b1 : a ≠ b1 := Nat.ne_of_lt (by rw [← hb1]; exact ob.lt)
  refine r_newa (atype := .int) (k := 0) (ty := .int) X q209 rfl rfl (fun _ _ => rfl) (x := (nI n)) (N' := n) (n, .inl (fun _ => 0)) (fun _ => rfl) (nI_pos (by omega)) (nI_clamp (by omega)) (by show n * 4 ≤ 536870912; omega) (by show _ + 1 ≤ 1; omega) (by show _ + n ≤ 40; omega) dX2_rowsByBeating_7 (fun H ha_b1 hE_b1 hz_b1 => ?_)
  rw [hb1] at ha_b1 hz_b1 ⊢
  have ob := ob.ext hE_b1
  have hbg := hbg.ext hE_b1
  have hst := hst.ext hE_b1
  have hof := hof.ext hE_b1
  have hsd := hsd.ext hE_b1
  have ha_b1 : Ar g b1 0 n (fun _ => 0) H := ha_b1
  have hE := hE.trans hE_b1
  refine lv_astore_n (lv' := [(1, .ref _), (0, .ref _)]) hx hb dX2_rowsByBeating_9 rfl hl (by decide) rfl (fun ls hl => ?_)
  refine lv_iconst (v := nI 1) hx hb dX2_rowsByBeating_10 (by decide) ?_
  refine lv_istore_n (lv' := [(2, .int _), (1, .ref _), (0, .ref _)]) hx hb dX2_rowsByBeating_11 rfl hl (by decide) rfl (fun ls hl => ?_)
  have L12 : ∀ (fuel : Nat) (b : Bool) (R : Nat → Nat) (f : Nat → Int32), 2 * lckN ro n R + (if b then 1 else 0) < fuel → (InvR ro n R) → (∀ j, j < n → f j = nI (R j)) → (b = false → ∀ j, j < n → FrN ro n R j = R j) → ∀ (H : Heap), Ar g b1 0 n f H → Ext s.heap H → ∀ (locs : List Loc), (∀ q ∈ locs, gLo g ≤ q.base) → ∀ (ls : Array Slot), lv_has ls 5 [(0, .ref a), (1, .ref b1), (2, .int (bI b))] → W p l e (rmL 9 1 40) s m args below meth c H locs 1 40 (MQ below (Qcg (fun r H H1 => ∃ (lb : Nat) (f : Nat → Int32), (Ar g lb 0 n f H1 ∧ H.size ≤ lb ∧ ∀ j, j < n → f j = nI (LY ro n j)) ∧ r = some (.ref lb) ∧ Ext H H1)) args s 1 40 (fre g)) (F0 m 12 ls []) := by
    intro fuel
    induction fuel with
    | zero => intro b R f hfu; exact absurd hfu (Nat.not_lt_zero _)
    | succ fuel ih12 =>
      intro b R f hfu hI hf hbe H ha_b1 hE locs hL ls hl
      have ob := ob0.ext hE
      have hst := hst0.ext hE
      have hof := hof0.ext hE
      have hbg := hbg0.ext hE
      have hsd := hsd0.ext hE
      have hfo := hfu
      refine lv_iload_n hx hb dX2_rowsByBeating_12 rfl (lv_at hl 2 rfl) ?_
      refine b_ifeq (tgt := 88) X dX2_rowsByBeating_13 (by decide) (fun c_13 => ?_) (fun c_13 => ?_)
      ·
        refine lv_aload_n hx hb dX2_rowsByBeating_88 rfl (lv_at hl 1 rfl) ?_
        exact r_aret X hL rfl (Or.inr ⟨_, rfl⟩) (Or.inr ⟨_, rfl⟩) dX2_rowsByBeating_89 (by omega) (by omega) ⟨b1, f, ⟨ha_b1, sz_b1, fun j hj => by rw [hf j hj, rows_end hR (hbe c_13) j hj]⟩, rfl, hE⟩
      ·
        refine lv_iconst (v := nI 0) hx hb dX2_rowsByBeating_16 (by decide) ?_
        refine lv_istore_n (lv' := [(2, .int _), (0, .ref _), (1, .ref _)]) hx hb dX2_rowsByBeating_17 rfl hl (by decide) rfl (fun ls hl => ?_)
        refine lv_iconst (v := nI 0) hx hb dX2_rowsByBeating_18 (by decide) ?_
        refine lv_istore_n (lv' := [(3, .int _), (2, .int _), (0, .ref _), (1, .ref _)]) hx hb dX2_rowsByBeating_19 rfl hl (by decide) rfl (fun ls hl => ?_)
        have L20 : ∀ (fuel : Nat) (k : Nat) (b2 : Bool) (R2 : Nat → Nat) (f2 : Nat → Int32), n - k < fuel → (k ≤ n) → (∀ j, j < n → f2 j = nI (R2 j)) → (RwI ro n R k R2 b2) → ∀ (H : Heap), Ar g b1 0 n f2 H → Ext s.heap H → ∀ (locs : List Loc), (∀ q ∈ locs, gLo g ≤ q.base) → ∀ (ls : Array Slot), lv_has ls 5 [(0, .ref a), (1, .ref b1), (2, .int (bI b2)), (3, .int (nI k))] → W p l e (rmL 9 1 40) s m args below meth c H locs 1 40 (MQ below (Qcg (fun r H H1 => ∃ (lb : Nat) (f : Nat → Int32), (Ar g lb 0 n f H1 ∧ H.size ≤ lb ∧ ∀ j, j < n → f j = nI (LY ro n j)) ∧ r = some (.ref lb) ∧ Ext H H1)) args s 1 40 (fre g)) (F0 m 20 ls []) := by
          intro fuel
          induction fuel with
          | zero => intro k b2 R2 f2 hfu; exact absurd hfu (Nat.not_lt_zero _)
          | succ fuel ih20 =>
            intro k b2 R2 f2 hfu hk hf2 hI2 H ha_b1 hE locs hL ls hl
            have ob := ob0.ext hE
            have hst := hst0.ext hE
            have hof := hof0.ext hE
            have hbg := hbg0.ext hE
            have hsd := hsd0.ext hE
            have hRb : ∀ j, j < n → R2 j ≤ 400 := fun j hj => Nat.le_trans (hI2.1.1 j hj) (LY_le ro n j)
            refine lv_iload_n hx hb dX2_rowsByBeating_20 rfl (lv_at hl 3 rfl) ?_
            refine lv_aload_n hx hb dX2_rowsByBeating_21 rfl (lv_at hl 0 rfl) ?_
            refine r_get (C := RX2) (T := TX2) (N := 4) (ci := 2) X in_X2 rfl 0 (Nat.le_of_ble_eq_true rfl) q210 (fun _ h => h) ob rfl dX2_rowsByBeating_22 ?_
            refine Cp.callV (v := .int (nI ((List.range n).length))) (ct_X3_size l g PB (XL x (List.range n)) ((List.range n).length) sb ) X hL hl vb_X3_size q564 (hbg.recv hKV) rfl rfl (Nat.le_of_ble_eq_true rfl) dX2_rowsByBeating_25 ⟨Nat.le_of_ble_eq_true rfl, Nat.le_of_ble_eq_true rfl⟩ (by omega) (by omega) hbg (fun locs hL => ?_)
            rw [rng_len]
            refine n_icmp_ge (tgt := 85) X dX2_rowsByBeating_28 (by decide) (by omega) (by omega) (fun c_28 => ?_) (fun c_28 => ?_)
            ·
              refine lv_goto (tgt := 12) hx hb dX2_rowsByBeating_85 (by decide) ?_
              exact W.widen (by omega) (by omega) (ih12 b2 R2 f2 (by have h5 := hI2.2.1; have h6 := hI2.2.2.1; rw [c_13] at hfo; cases b2 <;> simp at hfo h6 ⊢ <;> omega) hI2.1 hf2 (fun z j hj => by obtain ⟨h5, h6⟩ := hI2.2.2.2 z; rw [Fr_congr h5 j, h5 j hj]; exact h6 j (by omega)) _ ha_b1 hE _ hL ls (lv_sub hl [0, 1, 2] rfl))
            ·
              refine lv_aload_n hx hb dX2_rowsByBeating_31 rfl (lv_at hl 0 rfl) ?_
              refine r_get (C := RX2) (T := TX2) (N := 4) (ci := 2) X in_X2 rfl 1 (Nat.le_of_ble_eq_true rfl) q212 (fun _ h => h) ob rfl dX2_rowsByBeating_32 ?_
              refine lv_aload_n hx hb dX2_rowsByBeating_35 rfl (lv_at hl 0 rfl) ?_
              refine lv_iload_n hx hb dX2_rowsByBeating_36 rfl (lv_at hl 3 rfl) ?_
              refine Cp.callV (v := .ref (x k)) (ct_X2_get l g ro n x a k hn (by omega)) X hL hl vb_X2_get q1168 (hst.recv hKV) rfl rfl (Nat.le_of_ble_eq_true rfl) dX2_rowsByBeating_37 ⟨Nat.le_of_ble_eq_true rfl, Nat.le_of_ble_eq_true rfl⟩ (by omega) (by omega) hst (fun locs hL => ?_)
              obtain ⟨Ik, hqk⟩ := hof k (rng_mem (by omega))
              have hown := hI2.1.le hR (k := k) (by omega)
              have hLk := LY_le ro n k
              refine Cp.callV (v := .int (bI (couB (mle ro) (mgr ro) (mv ro k)))) (ct_X4_counts l g PS ro sd Ik (mv ro k) (x k) ) X hL hl vb_X4_counts q534 (hsd.recv hKV) rfl rfl (Nat.le_of_ble_eq_true rfl) dX2_rowsByBeating_40 ⟨Nat.le_of_ble_eq_true rfl, Nat.le_of_ble_eq_true rfl⟩ (by omega) (by omega) ⟨hsd, hqk⟩ (fun locs hL => ?_)
              refine b_ifeq (tgt := 55) X dX2_rowsByBeating_43 (by decide) (fun c_43 => ?_) (fun c_43 => ?_)
              ·
                refine lv_iconst (v := nI 0) hx hb dX2_rowsByBeating_55 (by decide) ?_
                refine W.stk (w := (nI (FrN ro n R2 k))) (by unfold FrN; rw [if_neg (by rw [show cB ro k = false from c_43]; decide)]) ?_
                refine lv_istore (lv' := [(4, .int _), (0, .ref _), (1, .ref _), (2, .int _), (3, .int _)]) hx hb dX2_rowsByBeating_56 hl (by decide) rfl (fun ls hl => ?_)
                refine lv_iload_n hx hb dX2_rowsByBeating_58 rfl (lv_at hl 3 rfl) ?_
                refine lv_iload hx hb dX2_rowsByBeating_59 (lv_at hl 0 rfl) ?_
                refine lv_aload_n hx hb dX2_rowsByBeating_61 rfl (lv_at hl 2 rfl) ?_
                refine lv_iload_n hx hb dX2_rowsByBeating_62 rfl (lv_at hl 4 rfl) ?_
                refine r_ild X ha_b1 k (nI_cl (by omega) rfl) (nI_nn (by omega) rfl) (by omega) dX2_rowsByBeating_63 ?_
                rw [show f2 k = (nI (R2 k)) from (hf2 k (by omega))]
                have hrk := hRb k (by omega)
                refine n_icmp_eq (tgt := 71) X dX2_rowsByBeating_64 (by decide) (by omega) (by omega) (fun c_64 => ?_) (fun c_64 => ?_)
                ·
                  refine lv_iconst (v := nI 0) hx hb dX2_rowsByBeating_71 (by decide) ?_
                  refine lv_ior hx hb dX2_rowsByBeating_72 ?_
                  refine W.stk (w := (bI (b2 || false))) (bI_or b2 false) ?_
                  refine lv_istore_n (lv' := [(2, .int _), (4, .int _), (0, .ref _), (1, .ref _), (3, .int _)]) hx hb dX2_rowsByBeating_73 rfl hl (by decide) rfl (fun ls hl => ?_)
                  refine lv_aload_n hx hb dX2_rowsByBeating_74 rfl (lv_at hl 3 rfl) ?_
                  refine lv_iload_n hx hb dX2_rowsByBeating_75 rfl (lv_at hl 4 rfl) ?_
                  refine lv_iload hx hb dX2_rowsByBeating_76 (lv_at hl 1 rfl) ?_
                  refine r_ist X hL ha_b1 lo_b1 k (nI_cl (by omega) rfl) (nI_nn (by omega) rfl) (by omega) dX2_rowsByBeating_78 (fun H locs hL h1 h2 => ?_)
                  have ha_b1 : Ar g b1 0 n (upd f2 k (nI (FrN ro n R2 k))) H := h1
                  have ob := ob.on h2 ne_a_b1
                  have hE := hE.on h2 sz_b1
                  refine lv_iinc (v := nI (k + 1)) (lv' := [(3, .int _), (2, .int _), (4, .int _), (0, .ref _), (1, .ref _)]) hx hb dX2_rowsByBeating_79 hl (k := 4) rfl (nI_iinc _ 1 rfl) (by decide) rfl (fun ls hl => ?_)
                  refine lv_goto (tgt := 20) hx hb dX2_rowsByBeating_82 (by decide) ?_
                  exact W.widen (by omega) (by omega) (ih20 (k + 1) _ _ _ (by omega) (by omega) (rw_up hf2) (hI2.eq (by omega) c_64) _ ha_b1 hE _ hL ls (lv_sub hl [3, 4, 1, 0] rfl))
                ·
                  refine lv_iconst (v := nI 1) hx hb dX2_rowsByBeating_67 (by decide) ?_
                  refine lv_goto (tgt := 72) hx hb dX2_rowsByBeating_68 (by decide) ?_
                  refine lv_ior hx hb dX2_rowsByBeating_72 ?_
                  refine W.stk (w := (bI (b2 || true))) (bI_or b2 true) ?_
                  refine lv_istore_n (lv' := [(2, .int _), (4, .int _), (0, .ref _), (1, .ref _), (3, .int _)]) hx hb dX2_rowsByBeating_73 rfl hl (by decide) rfl (fun ls hl => ?_)
                  refine lv_aload_n hx hb dX2_rowsByBeating_74 rfl (lv_at hl 3 rfl) ?_
                  refine lv_iload_n hx hb dX2_rowsByBeating_75 rfl (lv_at hl 4 rfl) ?_
                  refine lv_iload hx hb dX2_rowsByBeating_76 (lv_at hl 1 rfl) ?_
                  refine r_ist X hL ha_b1 lo_b1 k (nI_cl (by omega) rfl) (nI_nn (by omega) rfl) (by omega) dX2_rowsByBeating_78 (fun H locs hL h1 h2 => ?_)
                  have ha_b1 : Ar g b1 0 n (upd f2 k (nI (FrN ro n R2 k))) H := h1
                  have ob := ob.on h2 ne_a_b1
                  have hE := hE.on h2 sz_b1
                  refine lv_iinc (v := nI (k + 1)) (lv' := [(3, .int _), (2, .int _), (4, .int _), (0, .ref _), (1, .ref _)]) hx hb dX2_rowsByBeating_79 hl (k := 4) rfl (nI_iinc _ 1 rfl) (by decide) rfl (fun ls hl => ?_)
                  refine lv_goto (tgt := 20) hx hb dX2_rowsByBeating_82 (by decide) ?_
                  exact W.widen (by omega) (by omega) (ih20 (k + 1) _ _ _ (by omega) (by omega) (rw_up hf2) (hI2.ne hR (by omega) c_64) _ ha_b1 hE _ hL ls (lv_sub hl [3, 4, 1, 0] rfl))
              ·
                refine lv_aload_n hx hb dX2_rowsByBeating_46 rfl (lv_at hl 0 rfl) ?_
                refine lv_iload_n hx hb dX2_rowsByBeating_47 rfl (lv_at hl 3 rfl) ?_
                refine lv_aload_n hx hb dX2_rowsByBeating_48 rfl (lv_at hl 1 rfl) ?_
                refine Cp.callV (v := .int (nI (maxN (fun j => if cB ro j && abv ro (nI 15) j k then R2 j else 0) n + 1))) (ct_X2_rowTo l g ro n x a k b1 f2 R2 hn hw (by omega) hf2 hRb) X hL hl vb_X2_rowTo q1172 (hst.recv hKV) rfl rfl (Nat.le_of_ble_eq_true rfl) dX2_rowsByBeating_49 ⟨Nat.le_of_ble_eq_true rfl, Nat.le_of_ble_eq_true rfl⟩ (by omega) (by omega) ⟨hst, ha_b1⟩ (fun locs hL => ?_)
                refine W.stk (w := (nI (FrN ro n R2 k))) (by unfold FrN; rw [if_pos (show cB ro k = true from c_43)]) ?_
                refine lv_goto (tgt := 56) hx hb dX2_rowsByBeating_52 (by decide) ?_
                refine lv_istore (lv' := [(4, .int _), (0, .ref _), (1, .ref _), (2, .int _), (3, .int _)]) hx hb dX2_rowsByBeating_56 hl (by decide) rfl (fun ls hl => ?_)
                refine lv_iload_n hx hb dX2_rowsByBeating_58 rfl (lv_at hl 3 rfl) ?_
                refine lv_iload hx hb dX2_rowsByBeating_59 (lv_at hl 0 rfl) ?_
                refine lv_aload_n hx hb dX2_rowsByBeating_61 rfl (lv_at hl 2 rfl) ?_
                refine lv_iload_n hx hb dX2_rowsByBeating_62 rfl (lv_at hl 4 rfl) ?_
                refine r_ild X ha_b1 k (nI_cl (by omega) rfl) (nI_nn (by omega) rfl) (by omega) dX2_rowsByBeating_63 ?_
                rw [show f2 k = (nI (R2 k)) from (hf2 k (by omega))]
                have hrk := hRb k (by omega)
                refine n_icmp_eq (tgt := 71) X dX2_rowsByBeating_64 (by decide) (by omega) (by omega) (fun c_64 => ?_) (fun c_64 => ?_)
                ·
                  refine lv_iconst (v := nI 0) hx hb dX2_rowsByBeating_71 (by decide) ?_
                  refine lv_ior hx hb dX2_rowsByBeating_72 ?_
                  refine W.stk (w := (bI (b2 || false))) (bI_or b2 false) ?_
                  refine lv_istore_n (lv' := [(2, .int _), (4, .int _), (0, .ref _), (1, .ref _), (3, .int _)]) hx hb dX2_rowsByBeating_73 rfl hl (by decide) rfl (fun ls hl => ?_)
                  refine lv_aload_n hx hb dX2_rowsByBeating_74 rfl (lv_at hl 3 rfl) ?_
                  refine lv_iload_n hx hb dX2_rowsByBeating_75 rfl (lv_at hl 4 rfl) ?_
                  refine lv_iload hx hb dX2_rowsByBeating_76 (lv_at hl 1 rfl) ?_
                  refine r_ist X hL ha_b1 lo_b1 k (nI_cl (by omega) rfl) (nI_nn (by omega) rfl) (by omega) dX2_rowsByBeating_78 (fun H locs hL h1 h2 => ?_)
                  have ha_b1 : Ar g b1 0 n (upd f2 k (nI (FrN ro n R2 k))) H := h1
                  have ob := ob.on h2 ne_a_b1
                  have hE := hE.on h2 sz_b1
                  refine lv_iinc (v := nI (k + 1)) (lv' := [(3, .int _), (2, .int _), (4, .int _), (0, .ref _), (1, .ref _)]) hx hb dX2_rowsByBeating_79 hl (k := 4) rfl (nI_iinc _ 1 rfl) (by decide) rfl (fun ls hl => ?_)
                  refine lv_goto (tgt := 20) hx hb dX2_rowsByBeating_82 (by decide) ?_
                  exact W.widen (by omega) (by omega) (ih20 (k + 1) _ _ _ (by omega) (by omega) (rw_up hf2) (hI2.eq (by omega) c_64) _ ha_b1 hE _ hL ls (lv_sub hl [3, 4, 1, 0] rfl))
                ·
                  refine lv_iconst (v := nI 1) hx hb dX2_rowsByBeating_67 (by decide) ?_
                  refine lv_goto (tgt := 72) hx hb dX2_rowsByBeating_68 (by decide) ?_
                  refine lv_ior hx hb dX2_rowsByBeating_72 ?_
                  refine W.stk (w := (bI (b2 || true))) (bI_or b2 true) ?_
                  refine lv_istore_n (lv' := [(2, .int _), (4, .int _), (0, .ref _), (1, .ref _), (3, .int _)]) hx hb dX2_rowsByBeating_73 rfl hl (by decide) rfl (fun ls hl => ?_)
                  refine lv_aload_n hx hb dX2_rowsByBeating_74 rfl (lv_at hl 3 rfl) ?_
                  refine lv_iload_n hx hb dX2_rowsByBeating_75 rfl (lv_at hl 4 rfl) ?_
                  refine lv_iload hx hb dX2_rowsByBeating_76 (lv_at hl 1 rfl) ?_
                  refine r_ist X hL ha_b1 lo_b1 k (nI_cl (by omega) rfl) (nI_nn (by omega) rfl) (by omega) dX2_rowsByBeating_78 (fun H locs hL h1 h2 => ?_)
                  have ha_b1 : Ar g b1 0 n (upd f2 k (nI (FrN ro n R2 k))) H := h1
                  have ob := ob.on h2 ne_a_b1
                  have hE := hE.on h2 sz_b1
                  refine lv_iinc (v := nI (k + 1)) (lv' := [(3, .int _), (2, .int _), (4, .int _), (0, .ref _), (1, .ref _)]) hx hb dX2_rowsByBeating_79 hl (k := 4) rfl (nI_iinc _ 1 rfl) (by decide) rfl (fun ls hl => ?_)
                  refine lv_goto (tgt := 20) hx hb dX2_rowsByBeating_82 (by decide) ?_
                  exact W.widen (by omega) (by omega) (ih20 (k + 1) _ _ _ (by omega) (by omega) (rw_up hf2) (hI2.ne hR (by omega) c_64) _ ha_b1 hE _ hL ls (lv_sub hl [3, 4, 1, 0] rfl))
        exact W.widen (by omega) (by omega) (L20 (n + 1) 0 false R f (by omega) (by omega) hf (RwI.zero hI) _ ha_b1 hE _ hL ls (lv_sub hl [2, 3, 1, 0] rfl))
  exact W.widen (by omega) (by omega) (L12 (2 * lckN ro n (fun _ => 0) + 2) true (fun _ => 0) _ (by show _ + 1 < _; omega) (InvR.zero ro n) (fun _ _ => rfl) (fun z => (by cases z)) _ ha_b1 hE _ hL ls (lv_sub hl [2, 1, 0] rfl))
theorem vb_X2_rowsByBeating : VB yX2_rowsByBeating cX2_rowsByBeating 5 (some (.array .int)) 0 := ⟨q1165, q1166, q100, q1167, ⟨by decide, by decide, by decide +kernel⟩⟩

set_option maxRecDepth 100000 in
set_option maxHeartbeats 4000000 in
theorem ct_X2_greatestOf (l : Launch) (g : GT) (a ra n : Nat) (f : Nat → Int32) (v : Nat → Nat) (hn : n ≤ 40) (hf : ∀ j, j < n → f j = nI (v j)) (hv : ∀ j, j < n → v j ≤ 400) : Ct l g yX2_greatestOf cX2_greatestOf 7 (some .int) 2 0 0 [.ref a, .ref ra] (Ar g ra 0 n f) (fun r H H1 => r = some (.int (nI (maxN v n))) ∧ H1 = H) := by
  refine Ct.of (by decide) (Nat.le_of_ble_eq_true rfl) ?_
  intro p e s m args below meth c X hP ls hl
  have hx := X.1
  have hb := X.2.1
  have hKV := X.2.2.2.2.2.2.2.1.1
  have hL : ∀ q ∈ ([] : List Loc), gLo g ≤ q.base := fun _ h => by cases h
  have har := hP
  have hl : lv_has ls 7 [(0, .ref a), (1, .ref ra)] := hl
  refine lv_iconst (v := nI 0) hx hb dX2_greatestOf_0 (by decide) ?_
  refine lv_istore_n (lv' := [(2, .int _), (0, .ref _), (1, .ref _)]) hx hb dX2_greatestOf_1 rfl hl (by decide) rfl (fun ls hl => ?_)
  refine lv_aload_n hx hb dX2_greatestOf_2 rfl (lv_at hl 2 rfl) ?_
  refine lv_astore_n (lv' := [(3, .ref _), (2, .int _), (0, .ref _), (1, .ref _)]) hx hb dX2_greatestOf_3 rfl hl (by decide) rfl (fun ls hl => ?_)
  refine lv_aload_n hx hb dX2_greatestOf_4 rfl (lv_at hl 0 rfl) ?_
  refine r_len (k := 0) (v := nI n) X har rfl rfl dX2_greatestOf_5 ?_
  refine lv_istore (lv' := [(4, .int _), (3, .ref _), (2, .int _), (0, .ref _), (1, .ref _)]) hx hb dX2_greatestOf_6 hl (by decide) rfl (fun ls hl => ?_)
  refine lv_iconst (v := nI 0) hx hb dX2_greatestOf_8 (by decide) ?_
  refine lv_istore (lv' := [(5, .int _), (4, .int _), (3, .ref _), (2, .int _), (0, .ref _), (1, .ref _)]) hx hb dX2_greatestOf_9 hl (by decide) rfl (fun ls hl => ?_)
  have L11 : ∀ (fuel : Nat) (k : Nat), n - k < fuel → (k ≤ n) → ∀ (locs : List Loc), (∀ q ∈ locs, gLo g ≤ q.base) → ∀ (ls : Array Slot), lv_has ls 7 [(2, .int (nI (maxN v k))), (3, .ref ra), (4, .int (nI n)), (5, .int (nI k))] → W p l e (rmL 2 0 0) s m args below meth c s.heap locs 0 0 (MQ below (Qcg (fun r H H1 => r = some (.int (nI (maxN v n))) ∧ H1 = H)) args s 0 0 (fre g)) (F0 m 11 ls []) := by
    intro fuel
    induction fuel with
    | zero => intro k hfu; exact absurd hfu (Nat.not_lt_zero _)
    | succ fuel ih11 =>
      intro k hfu hk  locs hL ls hl
      have hmx : maxN v k ≤ 400 := maxN_le (fun j hj => hv j (by omega))
      refine lv_iload hx hb dX2_greatestOf_11 (lv_at hl 3 rfl) ?_
      refine lv_iload hx hb dX2_greatestOf_13 (lv_at hl 2 rfl) ?_
      refine n_icmp_ge (tgt := 37) X dX2_greatestOf_15 (by decide) (by omega) (by omega) (fun c_15 => ?_) (fun c_15 => ?_)
      ·
        refine lv_iload_n hx hb dX2_greatestOf_37 rfl (lv_at hl 0 rfl) ?_
        exact r_iret X hL rfl rfl dX2_greatestOf_38 (by omega) (by omega) ⟨by rw [show k = n by omega], rfl⟩
      ·
        refine lv_aload_n hx hb dX2_greatestOf_18 rfl (lv_at hl 1 rfl) ?_
        refine lv_iload hx hb dX2_greatestOf_19 (lv_at hl 3 rfl) ?_
        refine r_ild X har k (nI_cl (by omega) rfl) (nI_nn (by omega) rfl) (by omega) dX2_greatestOf_21 ?_
        rw [show f k = (nI (v k)) from (hf k (by omega))]
        refine lv_istore (lv' := [(6, .int _), (2, .int _), (3, .ref _), (4, .int _), (5, .int _)]) hx hb dX2_greatestOf_22 hl (by decide) rfl (fun ls hl => ?_)
        refine lv_iload_n hx hb dX2_greatestOf_24 rfl (lv_at hl 1 rfl) ?_
        refine lv_iload hx hb dX2_greatestOf_25 (lv_at hl 0 rfl) ?_
        have hvk := hv k (by omega)
        refine va_mmax hx hb (X.2.2.1.trans hl.1.symm) X.2.2.2.1 (X.2.2.2.2.1 _ q1085) (X.2.2.2.2.1 _ q380) (X.2.2.2.2.1 _ q120) (X.2.2.2.2.1 _ q381) (Nat.le_of_ble_eq_true rfl) (Nat.le_of_ble_eq_true rfl) (by show 0 ≤ 0; omega) (by show 0 ≤ 0; omega) dX2_greatestOf_27 ?_
        refine W.stk (w := mxI (nI (maxN v k)) (nI (v k))) rfl ?_
        refine W.stk (w := (nI (maxN v (k + 1)))) ((mxI_n (by omega) (by omega)).trans (by rw [maxN_t rfl])) ?_
        refine lv_istore_n (lv' := [(2, .int _), (6, .int _), (3, .ref _), (4, .int _), (5, .int _)]) hx hb dX2_greatestOf_30 rfl hl (by decide) rfl (fun ls hl => ?_)
        refine lv_iinc (v := nI (k + 1)) (lv' := [(5, .int _), (2, .int _), (6, .int _), (3, .ref _), (4, .int _)]) hx hb dX2_greatestOf_31 hl (k := 4) rfl (nI_iinc _ 1 rfl) (by decide) rfl (fun ls hl => ?_)
        refine lv_goto (tgt := 11) hx hb dX2_greatestOf_34 (by decide) ?_
        exact ih11 (k + 1) (by omega) (by omega) _ hL ls (lv_sub hl [1, 3, 4, 0] rfl)
  exact L11 (n + 1) 0 (by omega) (by omega) _ hL ls (lv_sub hl [3, 2, 1, 0] rfl)
theorem vb_X2_greatestOf : VB yX2_greatestOf cX2_greatestOf 7 (some .int) 1 := ⟨q1082, q1083, q100, q1084, ⟨by decide, by decide, by decide +kernel⟩⟩
