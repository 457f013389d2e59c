/-! the model's walks, tenth part: two for all, and greedily -/
theorem setB_B (f : Nat → Int32) (n : Nat) (p q : Nat → Bool) : setB (setB f n p) n q = setB f n q := by
  funext j; unfold setB; split <;> simp_all
theorem setB_r {f : Nat → Int32} {n k j : Nat} {p q : Nat → Bool} (h : k ≤ j) (hj : j < n) : setB (setB f n p) k q j = bI (p j) := by
  unfold setB; rw [if_neg (by omega), if_pos hj]
theorem setB_clr {f : Nat → Int32} {n b : Nat} {t : Nat → Bool} (hb : b < n) : upd (setB f n t) b (nI 0) = setB f n (fun j => t j && !decide (j = b)) := by
  funext j
  by_cases q : j = b
  · subst q; simp [upd, setB, hb]; rfl
  · simp [upd, setB, q]
def gaN (r : Nat → Int32) (n : Nat) (cv : Nat → Bool) (k : Nat) : Nat := cnt (fun j => !cv j && beatB r k j) n
def bcM (x : Option (Nat × Nat)) : Int32 := match x with
  | none => (-1)
  | some z => nI z.2
def bcI (x : Option (Nat × Nat)) : Int32 := match x with
  | none => (-1)
  | some z => nI z.1
/-- the first of t by which the most are beaten that are not covered -/
def bcN (r : Nat → Int32) (n : Nat) (t cv : Nat → Bool) : Nat → Option (Nat × Nat)
  | 0 => none
  | k + 1 => if t k && decide (bcM (bcN r n t cv k) < nI (gaN r n cv k)) then some (k, gaN r n cv k) else bcN r n t cv k
theorem bcN_t {r : Nat → Int32} {n k : Nat} {t cv : Nat → Bool} (h : t k = true) (hl : bcM (bcN r n t cv k) < nI (gaN r n cv k)) : bcN r n t cv (k + 1) = some (k, gaN r n cv k) := by
  unfold bcN; rw [if_pos]; simp [h, hl]
theorem bcN_f {r : Nat → Int32} {n k : Nat} {t cv : Nat → Bool} (h : t k = false) : bcN r n t cv (k + 1) = bcN r n t cv k := by
  rw [bcN, if_neg]; simp [h]
theorem bcN_f2 {r : Nat → Int32} {n k : Nat} {t cv : Nat → Bool} (h : nI (gaN r n cv k) ≤ bcM (bcN r n t cv k)) : bcN r n t cv (k + 1) = bcN r n t cv k := by
  rw [bcN, if_neg]; simp [nlt_of_le h]
theorem bcN_is {r : Nat → Int32} {n : Nat} {t cv : Nat → Bool} : ∀ {k : Nat} {z : Nat × Nat}, bcN r n t cv k = some z → z.1 < k ∧ t z.1 = true ∧ z.2 = gaN r n cv z.1
  | 0, z, h => by cases h
  | k + 1, z, h => by
    unfold bcN at h
    split at h
    · rename_i q
      cases h
      rw [Bool.and_eq_true] at q
      exact ⟨Nat.lt_succ_self _, q.1, rfl⟩
    · obtain ⟨a, b, e⟩ := bcN_is h
      exact ⟨by omega, b, e⟩
theorem bcN_some {r : Nat → Int32} {n : Nat} (hn : n ≤ 40) {t cv : Nat → Bool} {k : Nat} (h : t k = true) : ∀ {m : Nat}, k < m → ∃ z, bcN r n t cv m = some z
  | 0, q => absurd q (Nat.not_lt_zero _)
  | m + 1, q => by
    rcases Nat.lt_or_ge k m with x | x
    · obtain ⟨z, hz⟩ := bcN_some hn h x
      unfold bcN
      split
      · exact ⟨_, rfl⟩
      · exact ⟨z, hz⟩
    · have : k = m := by omega
      subst this
      cases e : bcN r n t cv k with
      | none =>
        refine ⟨_, bcN_t h ?_⟩
        rw [e]
        have := nI_pos' (n := gaN r n cv k) (Nat.lt_of_le_of_lt (cnt_le _ _) (by omega))
        show (-1 : Int32) < _
        rw [Int32.lt_iff_toInt_lt]
        rw [Int32.le_iff_toInt_le] at this
        have e1 : (-1 : Int32).toInt = -1 := by decide
        have e2 : (0 : Int32).toInt = 0 := by decide
        omega
      | some z =>
        unfold bcN
        split
        · exact ⟨_, rfl⟩
        · exact ⟨z, e⟩
def gB1 (r : Nat → Int32) (n : Nat) (t cv : Nat → Bool) : Nat := match bcN r n t cv n with
  | none => 0
  | some z => z.1
/-- what is left told, what is covered, the sum after so many steps -/
def grS (r : Nat → Int32) (n : Nat) (t : Nat → Bool) : Nat → (Nat → Bool) × (Nat → Bool) × Nat
  | 0 => (t, fun _ => false, 0)
  | z + 1 => ((fun j => (grS r n t z).1 j && !decide (j = gB1 r n (grS r n t z).1 (grS r n t z).2.1)), (fun j => (grS r n t z).2.1 j || beatB r (gB1 r n (grS r n t z).1 (grS r n t z).2.1) j), (grS r n t z).2.2 + gaN r n (grS r n t z).2.1 (gB1 r n (grS r n t z).1 (grS r n t z).2.1))
def gBs (r : Nat → Int32) (n : Nat) (t : Nat → Bool) (z : Nat) : Nat := gB1 r n (grS r n t z).1 (grS r n t z).2.1
theorem cnt_clr {t : Nat → Bool} {b : Nat} (h : t b = true) : ∀ {n : Nat}, b < n → cnt (fun j => t j && !decide (j = b)) n + 1 = cnt t n
  | 0, q => absurd q (Nat.not_lt_zero _)
  | n + 1, q => by
    unfold cnt
    rcases Nat.lt_or_ge b n with x | x
    · rw [← cnt_clr h x]
      have : ¬ n = b := by omega
      simp [this]; omega
    · have : b = n := by omega
      subst this
      have e : cnt (fun j => t j && !decide (j = b)) b = cnt t b := cnt_congr (fun k hk => by simp [show ¬ k = b by omega])
      rw [e]; simp [h]
theorem gr_best {r : Nat → Int32} {n : Nat} (hn : n ≤ 40) {t cv : Nat → Bool} (h : 0 < cnt t n) : bcI (bcN r n t cv n) = nI (gB1 r n t cv) ∧ bcM (bcN r n t cv n) = nI (gaN r n cv (gB1 r n t cv)) ∧ gB1 r n t cv < n ∧ t (gB1 r n t cv) = true := by
  obtain ⟨k, hk, ht⟩ := cnt_pos h
  obtain ⟨z, hz⟩ := bcN_some (r := r) (cv := cv) hn ht hk
  obtain ⟨a, b, e⟩ := bcN_is hz
  have e1 : gB1 r n t cv = z.1 := by unfold gB1; rw [hz]
  rw [e1, hz]
  exact ⟨rfl, by show nI z.2 = _; rw [e], a, b⟩
def s_taken (S : MS) (n : Nat) (x : Int32) : Nat × Option Value × MS := if !inB x (nI 0) (nI (min (cnt (tellB (S.1 0) n (hasB (matI (mw (S.1 0))))) n) 40) - nI 1) then x_ S 1 else q_ S (nI (gBs (S.1 0) n (tellB (S.1 0) n (hasB (matI (mw (S.1 0))))) x.toNatClampNeg))

theorem twB_0 {r : Nat → Int32} {n a v : Nat} {t : Nat → Bool} (h : t a = false) : ∀ b, twB r n t a v b = v
  | 0 => rfl
  | b + 1 => by rw [twB, h, Bool.false_and, if_neg (by decide)]; exact twB_0 h b
theorem twA_0 {r : Nat → Int32} {n : Nat} {t : Nat → Bool} (h : ∀ k, k < n → t k = false) : ∀ a, a ≤ n → twA r n t a = 0
  | 0, _ => rfl
  | a + 1, q => by rw [twA, twB_0 (h a (by omega))]; exact twA_0 h a (by omega)
set_option maxRecDepth 100000 in
set_option maxHeartbeats 4000000 in
theorem ct_X5_byTwo (l : Launch) (g : GT) (o n : Nat) (S : MS) (hN : S.1 0 160 = nI n) (hn : n ≤ 40) : Ct l g yX5_byTwo cX5_byTwo 7 (some .int) 7 0 0 [.ref o] (MW g o S) (fun r H H1 => r = some (.int (nI (twA (S.1 0) n (tellB (S.1 0) n (hasB (matI (mw (S.1 0))))) n))) ∧ MW g o (uA S 5 (setB (S.1 5) n (tellB (S.1 0) n (hasB (matI (mw (S.1 0))))))) H1 ∧ Off o H H1) := by
  refine Ct.of (by decide) (Nat.le_of_ble_eq_true rfl) ?_
  intro p e s m args below meth c X hP ls hl
  have hx := X.1
  have hb := X.2.1
  have hKV := X.2.2.2.2.2.2.2.1.1
  have hL : ∀ q ∈ ([] : List Loc), gLo g ≤ q.base := fun _ h => by cases h
  have hl : lv_has ls 7 [(0, .ref o)] := hl
  have hW : MW g o S s.heap := hP
  have hO : Off o s.heap s.heap := Off.rfl'
  refine lv_aload_n hx hb dX5_byTwo_0 rfl (lv_at hl 0 rfl) ?_
  refine lv_aload_n hx hb dX5_byTwo_1 rfl (lv_at hl 0 rfl) ?_
  refine Cp.callV (v := .int (matI (mw (S.1 0)))) (ct_X5_mattering l g o S ) X hL hl vb_X5_mattering q1927 (hW.2.1.recv hKV rfl) rfl rfl (Nat.le_of_ble_eq_true rfl) dX5_byTwo_2 ⟨Nat.le_of_ble_eq_true rfl, Nat.le_of_ble_eq_true rfl⟩ (by omega) (by omega) hW (fun locs hL => ?_)
  refine Ct.callV (ct_X5_tell l g o n S (matI (mw (S.1 0))) hN hn) X hL hl vb_X5_tell q1935 (hW.2.1.recv hKV rfl) rfl rfl (Nat.le_of_ble_eq_true rfl) dX5_byTwo_5 ⟨Nat.le_of_ble_eq_true rfl, Nat.le_of_ble_eq_true rfl⟩ (by omega) (by omega) hW (fun r H1 locs hL hp => ?_)
  obtain ⟨rfl, hW, hO1⟩ := hp
  have hO := hO.trans hO1
  have hW := MW.cast (S1 := uA S 5 (setB (S.1 5) n (tellB (S.1 0) n (hasB (matI (mw (S.1 0))))))) hW ⟨rfl, rfl, rfl, rfl, rfl, rfl, rfl, rfl, rfl, rfl, rfl, rfl, rfl, rfl, rfl, rfl, rfl⟩
  refine W.stk (w := (nI (cnt (tellB (S.1 0) n (hasB (matI (mw (S.1 0))))) n))) rfl ?_
  refine lv_istore_n (lv' := [(1, .int _), (0, .ref _)]) hx hb dX5_byTwo_8 rfl hl (by decide) rfl (fun ls hl => ?_)
  refine lv_iconst (v := nI 0) hx hb dX5_byTwo_9 (by decide) ?_
  refine lv_istore_n (lv' := [(2, .int _), (1, .int _), (0, .ref _)]) hx hb dX5_byTwo_10 rfl hl (by decide) rfl (fun ls hl => ?_)
  refine lv_iconst (v := nI 0) hx hb dX5_byTwo_11 (by decide) ?_
  refine lv_istore_n (lv' := [(3, .int _), (2, .int _), (1, .int _), (0, .ref _)]) hx hb dX5_byTwo_12 rfl hl (by decide) rfl (fun ls hl => ?_)
  have L13 : ∀ (fuel : Nat) (y a : Nat), n - a < fuel → (y = twA (S.1 0) n (tellB (S.1 0) n (hasB (matI (mw (S.1 0))))) a) → (a ≤ n) → ∀ (locs : List Loc), (∀ q ∈ locs, gLo g ≤ q.base) → ∀ (ls : Array Slot), lv_has ls 7 [(0, .ref o), (1, .int (nI (cnt (tellB (S.1 0) n (hasB (matI (mw (S.1 0))))) n))), (2, .int (nI y)), (3, .int (nI a))] → W p l e (rmL 7 0 0) s m args below meth c H1 locs 0 0 (MQ below (Qcg (fun r H H1 => r = some (.int (nI (twA (S.1 0) n (tellB (S.1 0) n (hasB (matI (mw (S.1 0))))) n))) ∧ MW g o (uA S 5 (setB (S.1 5) n (tellB (S.1 0) n (hasB (matI (mw (S.1 0))))))) H1 ∧ Off o H H1)) args s 0 0 (fre g)) (F0 m 13 ls []) := by
    intro fuel
    induction fuel with
    | zero => intro y a hfu; exact absurd hfu (Nat.not_lt_zero _)
    | succ fuel ih13 =>
      intro y a hfu hy hk  locs hL ls hl
      have hyb := twA_le (S.1 0) n (tellB (S.1 0) n (hasB (matI (mw (S.1 0))))) a
      refine lv_iload_n hx hb dX5_byTwo_13 rfl (lv_at hl 3 rfl) ?_
      refine lv_aload_n hx hb dX5_byTwo_14 rfl (lv_at hl 0 rfl) ?_
      refine mg_7 X rfl hW dX5_byTwo_15 ?_
      refine lv_sipush (v := nI 160) hx hb dX5_byTwo_18 (by decide) ?_
      refine m_ld (v := (nI n)) X hW 0 (by decide) rfl 160 rfl (by decide) (show (S.1 0) 160 = (nI n) from hN) dX5_byTwo_21 ?_
      refine n_icmp_ge (tgt := 137) X dX5_byTwo_22 (by decide) (by omega) (by omega) (fun c_22 => ?_) (fun c_22 => ?_)
      ·
        refine lv_iload_n hx hb dX5_byTwo_137 rfl (lv_at hl 1 rfl) ?_
        have hc1 := cnt_le (tellB (S.1 0) n (hasB (matI (mw (S.1 0))))) n
        refine n_ifne (tgt := 145) X dX5_byTwo_138 (by decide) (by omega) (fun c_138 => ?_) (fun c_138 => ?_)
        ·
          refine lv_iload_n hx hb dX5_byTwo_145 rfl (lv_at hl 2 rfl) ?_
          exact r_iret X hL rfl rfl dX5_byTwo_146 (by omega) (by omega) ⟨(by rw [hy, show a = n by omega]), hW, hO⟩
        ·
          refine lv_iconst (v := nI 0) hx hb dX5_byTwo_141 (by decide) ?_
          refine lv_goto (tgt := 146) hx hb dX5_byTwo_142 (by decide) ?_
          exact r_iret X hL rfl rfl dX5_byTwo_146 (by omega) (by omega) ⟨(by rw [show twA (S.1 0) n (tellB (S.1 0) n (hasB (matI (mw (S.1 0))))) n = 0 from twA_0 (fun k hk => cnt_0 c_138 k hk) n (Nat.le_refl n)]), hW, hO⟩
      ·
        refine lv_iconst (v := nI 0) hx hb dX5_byTwo_25 (by decide) ?_
        refine lv_istore (lv' := [(4, .int _), (0, .ref _), (1, .int _), (2, .int _), (3, .int _)]) hx hb dX5_byTwo_26 hl (by decide) rfl (fun ls hl => ?_)
        have L28 : ∀ (fuel : Nat) (v b : Nat), a + 1 - b < fuel → (v = twB (S.1 0) n (tellB (S.1 0) n (hasB (matI (mw (S.1 0))))) a (twA (S.1 0) n (tellB (S.1 0) n (hasB (matI (mw (S.1 0))))) a) b) → (b ≤ a + 1) → ∀ (locs : List Loc), (∀ q ∈ locs, gLo g ≤ q.base) → ∀ (ls : Array Slot), lv_has ls 7 [(0, .ref o), (1, .int (nI (cnt (tellB (S.1 0) n (hasB (matI (mw (S.1 0))))) n))), (2, .int (nI v)), (3, .int (nI a)), (4, .int (nI b))] → W p l e (rmL 7 0 0) s m args below meth c H1 locs 0 0 (MQ below (Qcg (fun r H H1 => r = some (.int (nI (twA (S.1 0) n (tellB (S.1 0) n (hasB (matI (mw (S.1 0))))) n))) ∧ MW g o (uA S 5 (setB (S.1 5) n (tellB (S.1 0) n (hasB (matI (mw (S.1 0))))))) H1 ∧ Off o H H1)) args s 0 0 (fre g)) (F0 m 28 ls []) := by
          intro fuel
          induction fuel with
          | zero => intro v b hfu; exact absurd hfu (Nat.not_lt_zero _)
          | succ fuel ih28 =>
            intro v b hfu hv hb1  locs hL ls hl
            have hvb : v ≤ n := by rw [hv]; exact twB_le hyb b
            refine lv_iload hx hb dX5_byTwo_28 (lv_at hl 4 rfl) ?_
            refine lv_iload_n hx hb dX5_byTwo_30 rfl (lv_at hl 3 rfl) ?_
            refine n_icmp_gt (tgt := 131) X dX5_byTwo_31 (by decide) (by omega) (by omega) (fun c_31 => ?_) (fun c_31 => ?_)
            ·
              refine lv_iinc (v := nI (a + 1)) (lv' := [(3, .int _), (0, .ref _), (1, .int _), (2, .int _), (4, .int _)]) hx hb dX5_byTwo_131 hl (k := 3) rfl (nI_iinc _ 1 rfl) (by decide) rfl (fun ls hl => ?_)
              refine lv_goto (tgt := 13) hx hb dX5_byTwo_134 (by decide) ?_
              exact ih13 v (a + 1) (by omega) (by rw [hv, show b = a + 1 by omega]; rfl) (by omega) _ hL ls (lv_sub hl [1, 2, 3, 0] rfl)
            ·
              refine lv_aload_n hx hb dX5_byTwo_34 rfl (lv_at hl 0 rfl) ?_
              refine mg_25 X rfl hW dX5_byTwo_35 ?_
              refine lv_iload_n hx hb dX5_byTwo_38 rfl (lv_at hl 3 rfl) ?_
              refine m_zld (v := (bI (tellB (S.1 0) n (hasB (matI (mw (S.1 0)))) a))) X hW 5 (by decide) rfl a rfl (by show a < 41; omega) (show (setB (S.1 5) n (tellB (S.1 0) n (hasB (matI (mw (S.1 0)))))) a = (bI (tellB (S.1 0) n (hasB (matI (mw (S.1 0)))) a)) from (setB_l (by omega))) dX5_byTwo_39 ?_
              refine b_ifeq (tgt := 125) X dX5_byTwo_40 (by decide) (fun c_40 => ?_) (fun c_40 => ?_)
              ·
                refine lv_iinc (v := nI (b + 1)) (lv' := [(4, .int _), (0, .ref _), (1, .int _), (2, .int _), (3, .int _)]) hx hb dX5_byTwo_125 hl (k := 4) rfl (nI_iinc _ 1 rfl) (by decide) rfl (fun ls hl => ?_)
                refine lv_goto (tgt := 28) hx hb dX5_byTwo_128 (by decide) ?_
                exact ih28 v (b + 1) (by omega) (by rw [hv, twB, c_40, Bool.false_and, if_neg (by decide)]) (by omega) _ hL ls (lv_sub hl [1, 2, 3, 4, 0] rfl)
              ·
                refine lv_aload_n hx hb dX5_byTwo_43 rfl (lv_at hl 0 rfl) ?_
                refine mg_25 X rfl hW dX5_byTwo_44 ?_
                refine lv_iload hx hb dX5_byTwo_47 (lv_at hl 4 rfl) ?_
                refine m_zld (v := (bI (tellB (S.1 0) n (hasB (matI (mw (S.1 0)))) b))) X hW 5 (by decide) rfl b rfl (by show b < 41; omega) (show (setB (S.1 5) n (tellB (S.1 0) n (hasB (matI (mw (S.1 0)))))) b = (bI (tellB (S.1 0) n (hasB (matI (mw (S.1 0)))) b)) from (setB_l (by omega))) dX5_byTwo_49 ?_
                refine b_ifne (tgt := 56) X dX5_byTwo_50 (by decide) (fun c_50 => ?_) (fun c_50 => ?_)
                ·
                  refine lv_iconst (v := nI 0) hx hb dX5_byTwo_56 (by decide) ?_
                  refine lv_istore (lv' := [(5, .int _), (0, .ref _), (1, .int _), (2, .int _), (3, .int _), (4, .int _)]) hx hb dX5_byTwo_57 hl (by decide) rfl (fun ls hl => ?_)
                  refine lv_iconst (v := nI 0) hx hb dX5_byTwo_59 (by decide) ?_
                  refine lv_istore (lv' := [(6, .int _), (5, .int _), (0, .ref _), (1, .int _), (2, .int _), (3, .int _), (4, .int _)]) hx hb dX5_byTwo_60 hl (by decide) rfl (fun ls hl => ?_)
                  have L62 : ∀ (fuel : Nat) (x j : Nat), n - j < fuel → (x = cnt (fun j => beatB (S.1 0) a j || beatB (S.1 0) b j) j) → (j ≤ n) → ∀ (locs : List Loc), (∀ q ∈ locs, gLo g ≤ q.base) → ∀ (ls : Array Slot), lv_has ls 7 [(0, .ref o), (1, .int (nI (cnt (tellB (S.1 0) n (hasB (matI (mw (S.1 0))))) n))), (2, .int (nI v)), (3, .int (nI a)), (4, .int (nI b)), (5, .int (nI x)), (6, .int (nI j))] → W p l e (rmL 7 0 0) s m args below meth c H1 locs 0 0 (MQ below (Qcg (fun r H H1 => r = some (.int (nI (twA (S.1 0) n (tellB (S.1 0) n (hasB (matI (mw (S.1 0))))) n))) ∧ MW g o (uA S 5 (setB (S.1 5) n (tellB (S.1 0) n (hasB (matI (mw (S.1 0))))))) H1 ∧ Off o H H1)) args s 0 0 (fre g)) (F0 m 62 ls []) := by
                    intro fuel
                    induction fuel with
                    | zero => intro x j hfu; exact absurd hfu (Nat.not_lt_zero _)
                    | succ fuel ih62 =>
                      intro x j hfu hx1 hj  locs hL ls hl
                      have hxb : x ≤ j := by rw [hx1]; exact cnt_le _ _
                      refine lv_iload hx hb dX5_byTwo_62 (lv_at hl 6 rfl) ?_
                      refine lv_aload_n hx hb dX5_byTwo_64 rfl (lv_at hl 0 rfl) ?_
                      refine mg_7 X rfl hW dX5_byTwo_65 ?_
                      refine lv_sipush (v := nI 160) hx hb dX5_byTwo_68 (by decide) ?_
                      refine m_ld (v := (nI n)) X hW 0 (by decide) rfl 160 rfl (by decide) (show (S.1 0) 160 = (nI n) from hN) dX5_byTwo_71 ?_
                      refine n_icmp_ge (tgt := 112) X dX5_byTwo_72 (by decide) (by omega) (by omega) (fun c_72 => ?_) (fun c_72 => ?_)
                      ·
                        refine lv_iload hx hb dX5_byTwo_112 (lv_at hl 5 rfl) ?_
                        refine lv_iload_n hx hb dX5_byTwo_114 rfl (lv_at hl 2 rfl) ?_
                        refine n_icmp_le (tgt := 123) X dX5_byTwo_115 (by decide) (by omega) (by omega) (fun c_115 => ?_) (fun c_115 => ?_)
                        ·
                          refine lv_iload_n hx hb dX5_byTwo_123 rfl (lv_at hl 2 rfl) ?_
                          refine lv_istore_n (lv' := [(2, .int _), (0, .ref _), (1, .int _), (3, .int _), (4, .int _), (5, .int _), (6, .int _)]) hx hb dX5_byTwo_124 rfl hl (by decide) rfl (fun ls hl => ?_)
                          refine lv_iinc (v := nI (b + 1)) (lv' := [(4, .int _), (2, .int _), (0, .ref _), (1, .int _), (3, .int _), (5, .int _), (6, .int _)]) hx hb dX5_byTwo_125 hl (k := 4) rfl (nI_iinc _ 1 rfl) (by decide) rfl (fun ls hl => ?_)
                          refine lv_goto (tgt := 28) hx hb dX5_byTwo_128 (by decide) ?_
                          exact ih28 v (b + 1) (by omega) (by rw [hx1, show j = n by omega] at c_115; rw [hv] at c_115; rw [hv, twB, if_neg]; simp; intro _ _; exact c_115) (by omega) _ hL ls (lv_sub hl [2, 3, 1, 4, 0] rfl)
                        ·
                          refine lv_iload hx hb dX5_byTwo_118 (lv_at hl 5 rfl) ?_
                          refine lv_goto (tgt := 124) hx hb dX5_byTwo_120 (by decide) ?_
                          refine lv_istore_n (lv' := [(2, .int _), (0, .ref _), (1, .int _), (3, .int _), (4, .int _), (5, .int _), (6, .int _)]) hx hb dX5_byTwo_124 rfl hl (by decide) rfl (fun ls hl => ?_)
                          refine lv_iinc (v := nI (b + 1)) (lv' := [(4, .int _), (2, .int _), (0, .ref _), (1, .int _), (3, .int _), (5, .int _), (6, .int _)]) hx hb dX5_byTwo_125 hl (k := 4) rfl (nI_iinc _ 1 rfl) (by decide) rfl (fun ls hl => ?_)
                          refine lv_goto (tgt := 28) hx hb dX5_byTwo_128 (by decide) ?_
                          exact ih28 x (b + 1) (by omega) (by rw [hx1, show j = n by omega] at c_115; rw [hx1, show j = n by omega]; rw [twB, if_pos (by rw [c_40, c_50, ← hv]; exact decide_eq_true c_115)]; rfl) (by omega) _ hL ls (lv_sub hl [2, 3, 1, 4, 0] rfl)
                      ·
                        refine lv_iload hx hb dX5_byTwo_75 (lv_at hl 5 rfl) ?_
                        refine lv_aload_n hx hb dX5_byTwo_77 rfl (lv_at hl 0 rfl) ?_
                        refine lv_iload_n hx hb dX5_byTwo_78 rfl (lv_at hl 3 rfl) ?_
                        refine lv_iload hx hb dX5_byTwo_79 (lv_at hl 6 rfl) ?_
                        refine Cp.callV (v := .int (bI (beatB (S.1 0) a j))) (ct_X5_beat l g o a j (uA S 5 (setB (S.1 5) n (tellB (S.1 0) n (hasB (matI (mw (S.1 0))))))) (by omega) (by omega)) X hL hl vb_X5_beat q2083 (hW.2.1.recv hKV rfl) rfl rfl (Nat.le_of_ble_eq_true rfl) dX5_byTwo_81 ⟨Nat.le_of_ble_eq_true rfl, Nat.le_of_ble_eq_true rfl⟩ (by omega) (by omega) hW (fun locs hL => ?_)
                        refine b_ifne (tgt := 98) X dX5_byTwo_84 (by decide) (fun c_84 => ?_) (fun c_84 => ?_)
                        ·
                          refine lv_iconst (v := nI 1) hx hb dX5_byTwo_98 (by decide) ?_
                          refine lv_goto (tgt := 103) hx hb dX5_byTwo_99 (by decide) ?_
                          refine n_iadd X dX5_byTwo_103 ?_
                          refine lv_istore (lv' := [(5, .int _), (0, .ref _), (1, .int _), (2, .int _), (3, .int _), (4, .int _), (6, .int _)]) hx hb dX5_byTwo_104 hl (by decide) rfl (fun ls hl => ?_)
                          refine lv_iinc (v := nI (j + 1)) (lv' := [(6, .int _), (5, .int _), (0, .ref _), (1, .int _), (2, .int _), (3, .int _), (4, .int _)]) hx hb dX5_byTwo_106 hl (k := 6) rfl (nI_iinc _ 1 rfl) (by decide) rfl (fun ls hl => ?_)
                          refine lv_goto (tgt := 62) hx hb dX5_byTwo_109 (by decide) ?_
                          exact ih62 _ _ (by omega) (by first | (refine cnt_t hx1 ?_; simp [c_84]; done) | (refine cnt_t hx1 ?_; simp [c_95]; done) | (refine cnt_f hx1 ?_; simp [c_84, c_95]; done)) (by omega) _ hL ls (lv_sub hl [2, 3, 4, 5, 6, 1, 0] rfl)
                        ·
                          refine lv_aload_n hx hb dX5_byTwo_87 rfl (lv_at hl 0 rfl) ?_
                          refine lv_iload hx hb dX5_byTwo_88 (lv_at hl 4 rfl) ?_
                          refine lv_iload hx hb dX5_byTwo_90 (lv_at hl 6 rfl) ?_
                          refine Cp.callV (v := .int (bI (beatB (S.1 0) b j))) (ct_X5_beat l g o b j (uA S 5 (setB (S.1 5) n (tellB (S.1 0) n (hasB (matI (mw (S.1 0))))))) (by omega) (by omega)) X hL hl vb_X5_beat q2083 (hW.2.1.recv hKV rfl) rfl rfl (Nat.le_of_ble_eq_true rfl) dX5_byTwo_92 ⟨Nat.le_of_ble_eq_true rfl, Nat.le_of_ble_eq_true rfl⟩ (by omega) (by omega) hW (fun locs hL => ?_)
                          refine b_ifeq (tgt := 102) X dX5_byTwo_95 (by decide) (fun c_95 => ?_) (fun c_95 => ?_)
                          ·
                            refine lv_iconst (v := nI 0) hx hb dX5_byTwo_102 (by decide) ?_
                            refine n_iadd X dX5_byTwo_103 ?_
                            refine lv_istore (lv' := [(5, .int _), (0, .ref _), (1, .int _), (2, .int _), (3, .int _), (4, .int _), (6, .int _)]) hx hb dX5_byTwo_104 hl (by decide) rfl (fun ls hl => ?_)
                            refine lv_iinc (v := nI (j + 1)) (lv' := [(6, .int _), (5, .int _), (0, .ref _), (1, .int _), (2, .int _), (3, .int _), (4, .int _)]) hx hb dX5_byTwo_106 hl (k := 6) rfl (nI_iinc _ 1 rfl) (by decide) rfl (fun ls hl => ?_)
                            refine lv_goto (tgt := 62) hx hb dX5_byTwo_109 (by decide) ?_
                            exact ih62 _ _ (by omega) (by first | (refine cnt_t hx1 ?_; simp [c_84]; done) | (refine cnt_t hx1 ?_; simp [c_95]; done) | (refine cnt_f hx1 ?_; simp [c_84, c_95]; done)) (by omega) _ hL ls (lv_sub hl [2, 3, 4, 5, 6, 1, 0] rfl)
                          ·
                            refine lv_iconst (v := nI 1) hx hb dX5_byTwo_98 (by decide) ?_
                            refine lv_goto (tgt := 103) hx hb dX5_byTwo_99 (by decide) ?_
                            refine n_iadd X dX5_byTwo_103 ?_
                            refine lv_istore (lv' := [(5, .int _), (0, .ref _), (1, .int _), (2, .int _), (3, .int _), (4, .int _), (6, .int _)]) hx hb dX5_byTwo_104 hl (by decide) rfl (fun ls hl => ?_)
                            refine lv_iinc (v := nI (j + 1)) (lv' := [(6, .int _), (5, .int _), (0, .ref _), (1, .int _), (2, .int _), (3, .int _), (4, .int _)]) hx hb dX5_byTwo_106 hl (k := 6) rfl (nI_iinc _ 1 rfl) (by decide) rfl (fun ls hl => ?_)
                            refine lv_goto (tgt := 62) hx hb dX5_byTwo_109 (by decide) ?_
                            exact ih62 _ _ (by omega) (by first | (refine cnt_t hx1 ?_; simp [c_84]; done) | (refine cnt_t hx1 ?_; simp [c_95]; done) | (refine cnt_f hx1 ?_; simp [c_84, c_95]; done)) (by omega) _ hL ls (lv_sub hl [2, 3, 4, 5, 6, 1, 0] rfl)
                  exact L62 (n + 1) 0 0 (by omega) rfl (by omega) _ hL ls (lv_sub hl [2, 3, 4, 5, 6, 1, 0] rfl)
                ·
                  refine lv_goto (tgt := 125) hx hb dX5_byTwo_53 (by decide) ?_
                  refine lv_iinc (v := nI (b + 1)) (lv' := [(4, .int _), (0, .ref _), (1, .int _), (2, .int _), (3, .int _)]) hx hb dX5_byTwo_125 hl (k := 4) rfl (nI_iinc _ 1 rfl) (by decide) rfl (fun ls hl => ?_)
                  refine lv_goto (tgt := 28) hx hb dX5_byTwo_128 (by decide) ?_
                  exact ih28 v (b + 1) (by omega) (by rw [hv, twB, c_50, Bool.false_and, Bool.and_false, if_neg (by decide)]) (by omega) _ hL ls (lv_sub hl [1, 2, 3, 4, 0] rfl)
        exact L28 (a + 2) y 0 (by omega) hy (by omega) _ hL ls (lv_sub hl [1, 2, 3, 4, 0] rfl)
  exact L13 (n + 1) 0 0 (by omega) rfl (by omega) _ hL ls (lv_sub hl [3, 2, 1, 0] rfl)
theorem vb_X5_byTwo : VB yX5_byTwo cX5_byTwo 7 (some .int) 0 := ⟨q2222, qs90, q111, q2223, ⟨by decide, by decide, by decide +kernel⟩⟩

set_option maxRecDepth 100000 in
set_option maxHeartbeats 4000000 in
theorem ct_X5_coveredByTwo (l : Launch) (g : GT) (o n : Nat) (S : MS) (hN : S.1 0 160 = nI n) (hn : n ≤ 40) : Ct l g yX5_coveredByTwo cX5_coveredByTwo 1 (some .int) 8 0 0 [.ref o] (MW g o S) (fun r H H1 => ∃ S1, AP S1 (q_ S (nI (twA (S.1 0) n (tellB (S.1 0) n (hasB (matI (mw (S.1 0))))) n))) r ∧ MW g o S1 H1 ∧ Off o H H1) := by
  refine Ct.of (by decide) (Nat.le_of_ble_eq_true rfl) ?_
  intro p e s m args below meth c X hP ls hl
  have hx := X.1
  have hb := X.2.1
  have hKV := X.2.2.2.2.2.2.2.1.1
  have hL : ∀ q ∈ ([] : List Loc), gLo g ≤ q.base := fun _ h => by cases h
  have hl : lv_has ls 1 [(0, .ref o)] := hl
  have hW : MW g o S s.heap := hP
  have hO : Off o s.heap s.heap := Off.rfl'
  refine lv_aload_n hx hb dX5_coveredByTwo_0 rfl (lv_at hl 0 rfl) ?_
  refine lv_iconst (v := nI 0) hx hb dX5_coveredByTwo_1 (by decide) ?_
  refine mp_38 X rfl hL hW dX5_coveredByTwo_2 (fun H locs hL hW hO1 => ?_)
  have hO := hO.trans hO1
  have hW := MW.cast (S1 := uS S 15 (nI 0)) hW ⟨rfl, rfl, rfl, rfl, rfl, rfl, rfl, rfl, rfl, rfl, rfl, rfl, rfl, rfl, rfl, rfl, rfl⟩
  refine lv_aload_n hx hb dX5_coveredByTwo_5 rfl (lv_at hl 0 rfl) ?_
  refine Ct.callV (ct_X5_byTwo l g o n (uS S 15 (nI 0)) hN hn) X hL hl vb_X5_byTwo q2220 (hW.2.1.recv hKV rfl) rfl rfl (Nat.le_of_ble_eq_true rfl) dX5_coveredByTwo_6 ⟨Nat.le_of_ble_eq_true rfl, Nat.le_of_ble_eq_true rfl⟩ (by omega) (by omega) hW (fun r H1 locs hL hp => ?_)
  obtain ⟨rfl, hW, hO1⟩ := hp
  have hO := hO.trans hO1
  have hW := MW.cast (S1 := uS (uA S 5 (setB (S.1 5) n (tellB (S.1 0) n (hasB (matI (mw (S.1 0))))))) 15 (nI 0)) hW ⟨rfl, rfl, rfl, rfl, rfl, rfl, rfl, rfl, rfl, rfl, rfl, rfl, rfl, rfl, rfl, rfl, rfl⟩
  refine W.stk (w := (nI (twA (S.1 0) n (tellB (S.1 0) n (hasB (matI (mw (S.1 0))))) n))) rfl ?_
  exact r_iret X hL rfl rfl dX5_coveredByTwo_9 (by omega) (by omega) ⟨uS (uA S 5 (setB (S.1 5) n (tellB (S.1 0) n (hasB (matI (mw (S.1 0))))))) 15 (nI 0), AP.mk (t := 0) (v := some (.int (nI (twA (S.1 0) n (tellB (S.1 0) n (hasB (matI (mw (S.1 0))))) n)))) (X := S) rfl ⟨rfl, rfl, rfl, rfl, rfl, rfl, rfl, rfl⟩ rfl rfl, hW, hO⟩
theorem vb_X5_coveredByTwo : VB yX5_coveredByTwo cX5_coveredByTwo 1 (some .int) 0 := ⟨q2217, q2218, q111, q2219, ⟨by decide, by decide, by decide +kernel⟩⟩

set_option maxRecDepth 100000 in
set_option maxHeartbeats 4000000 in
theorem ct_X5_cover (l : Launch) (g : GT) (o n q : Nat) (S : MS) (hN : S.1 0 160 = nI n) (hn : n ≤ 40) (hq : q ≤ 40) : Ct l g yX5_cover cX5_cover 9 (some .int) 7 0 0 [.ref o, .int (nI q)] (MW g o S) (fun r H H1 => r = some (.int (nI ((grS (S.1 0) n (tellB (S.1 0) n (hasB (matI (mw (S.1 0))))) (min (cnt (tellB (S.1 0) n (hasB (matI (mw (S.1 0))))) n) q)).2.2))) ∧ MW g o (uS (uA (uA (uA S 5 (setB (S.1 5) n (grS (S.1 0) n (tellB (S.1 0) n (hasB (matI (mw (S.1 0))))) (min (cnt (tellB (S.1 0) n (hasB (matI (mw (S.1 0))))) n) q)).1)) 6 (setB (S.1 6) n (grS (S.1 0) n (tellB (S.1 0) n (hasB (matI (mw (S.1 0))))) (min (cnt (tellB (S.1 0) n (hasB (matI (mw (S.1 0))))) n) q)).2.1)) 8 (setI (S.1 8) (min (cnt (tellB (S.1 0) n (hasB (matI (mw (S.1 0))))) n) q) (fun j => nI (gBs (S.1 0) n (tellB (S.1 0) n (hasB (matI (mw (S.1 0))))) j)))) 9 (nI (min (cnt (tellB (S.1 0) n (hasB (matI (mw (S.1 0))))) n) q))) H1 ∧ Off o H H1) := by
  refine Ct.of (by decide) (Nat.le_of_ble_eq_true rfl) ?_
  intro p e s m args below meth c X hP ls hl
  have hx := X.1
  have hb := X.2.1
  have hKV := X.2.2.2.2.2.2.2.1.1
  have hL : ∀ q ∈ ([] : List Loc), gLo g ≤ q.base := fun _ h => by cases h
  have hl : lv_has ls 9 [(0, .ref o), (1, .int (nI q))] := hl
  have hW : MW g o S s.heap := hP
  have hO : Off o s.heap s.heap := Off.rfl'
  refine lv_aload_n hx hb dX5_cover_0 rfl (lv_at hl 0 rfl) ?_
  refine lv_aload_n hx hb dX5_cover_1 rfl (lv_at hl 0 rfl) ?_
  refine Cp.callV (v := .int (matI (mw (S.1 0)))) (ct_X5_mattering l g o S ) X hL hl vb_X5_mattering q1927 (hW.2.1.recv hKV rfl) rfl rfl (Nat.le_of_ble_eq_true rfl) dX5_cover_2 ⟨Nat.le_of_ble_eq_true rfl, Nat.le_of_ble_eq_true rfl⟩ (by omega) (by omega) hW (fun locs hL => ?_)
  refine Ct.callV (ct_X5_tell l g o n S (matI (mw (S.1 0))) hN hn) X hL hl vb_X5_tell q1935 (hW.2.1.recv hKV rfl) rfl rfl (Nat.le_of_ble_eq_true rfl) dX5_cover_5 ⟨Nat.le_of_ble_eq_true rfl, Nat.le_of_ble_eq_true rfl⟩ (by omega) (by omega) hW (fun r H1 locs hL hp => ?_)
  obtain ⟨rfl, hW, hO1⟩ := hp
  have hO := hO.trans hO1
  have hW := MW.cast (S1 := uA S 5 (setB (S.1 5) n (tellB (S.1 0) n (hasB (matI (mw (S.1 0))))))) hW ⟨rfl, rfl, rfl, rfl, rfl, rfl, rfl, rfl, rfl, rfl, rfl, rfl, rfl, rfl, rfl, rfl, rfl⟩
  refine W.stk (w := (nI (cnt (tellB (S.1 0) n (hasB (matI (mw (S.1 0))))) n))) rfl ?_
  refine lv_istore_n (lv' := [(2, .int _), (0, .ref _), (1, .int _)]) hx hb dX5_cover_8 rfl hl (by decide) rfl (fun ls hl => ?_)
  refine lv_iconst (v := nI 0) hx hb dX5_cover_9 (by decide) ?_
  refine lv_istore_n (lv' := [(3, .int _), (2, .int _), (0, .ref _), (1, .int _)]) hx hb dX5_cover_10 rfl hl (by decide) rfl (fun ls hl => ?_)
  have L11 : ∀ (fuel : Nat) (k : Nat), n - k < fuel → (k ≤ n) → ∀ (H : Heap), MW g o (uA (uA S 5 (setB (S.1 5) n (tellB (S.1 0) n (hasB (matI (mw (S.1 0))))))) 6 (setB (S.1 6) k (fun _ => false))) H → Off o s.heap H → ∀ (locs : List Loc), (∀ q ∈ locs, gLo g ≤ q.base) → ∀ (ls : Array Slot), lv_has ls 9 [(0, .ref o), (1, .int (nI q)), (2, .int (nI (cnt (tellB (S.1 0) n (hasB (matI (mw (S.1 0))))) n))), (3, .int (nI k))] → W p l e (rmL 7 0 0) s m args below meth c H locs 0 0 (MQ below (Qcg (fun r H H1 => r = some (.int (nI ((grS (S.1 0) n (tellB (S.1 0) n (hasB (matI (mw (S.1 0))))) (min (cnt (tellB (S.1 0) n (hasB (matI (mw (S.1 0))))) n) q)).2.2))) ∧ MW g o (uS (uA (uA (uA S 5 (setB (S.1 5) n (grS (S.1 0) n (tellB (S.1 0) n (hasB (matI (mw (S.1 0))))) (min (cnt (tellB (S.1 0) n (hasB (matI (mw (S.1 0))))) n) q)).1)) 6 (setB (S.1 6) n (grS (S.1 0) n (tellB (S.1 0) n (hasB (matI (mw (S.1 0))))) (min (cnt (tellB (S.1 0) n (hasB (matI (mw (S.1 0))))) n) q)).2.1)) 8 (setI (S.1 8) (min (cnt (tellB (S.1 0) n (hasB (matI (mw (S.1 0))))) n) q) (fun j => nI (gBs (S.1 0) n (tellB (S.1 0) n (hasB (matI (mw (S.1 0))))) j)))) 9 (nI (min (cnt (tellB (S.1 0) n (hasB (matI (mw (S.1 0))))) n) q))) H1 ∧ Off o H H1)) args s 0 0 (fre g)) (F0 m 11 ls []) := by
    intro fuel
    induction fuel with
    | zero => intro k hfu; exact absurd hfu (Nat.not_lt_zero _)
    | succ fuel ih11 =>
      intro k hfu hk H hW hO locs hL ls hl
      refine lv_iload_n hx hb dX5_cover_11 rfl (lv_at hl 3 rfl) ?_
      refine lv_aload_n hx hb dX5_cover_12 rfl (lv_at hl 0 rfl) ?_
      refine mg_7 X rfl hW dX5_cover_13 ?_
      refine lv_sipush (v := nI 160) hx hb dX5_cover_16 (by decide) ?_
      refine m_ld (v := (nI n)) X hW 0 (by decide) rfl 160 rfl (by decide) (show (S.1 0) 160 = (nI n) from hN) dX5_cover_19 ?_
      refine n_icmp_ge (tgt := 36) X dX5_cover_20 (by decide) (by omega) (by omega) (fun c_20 => ?_) (fun c_20 => ?_)
      ·
        refine lv_aload_n hx hb dX5_cover_36 rfl (lv_at hl 0 rfl) ?_
        refine lv_iconst (v := nI 0) hx hb dX5_cover_37 (by decide) ?_
        refine mp_82 X rfl hL hW dX5_cover_38 (fun H locs hL hW hO1 => ?_)
        have hO := hO.trans hO1
        have hW := MW.cast (S1 := uS (uA (uA S 5 (setB (S.1 5) n (tellB (S.1 0) n (hasB (matI (mw (S.1 0))))))) 6 (setB (S.1 6) k (fun _ => false))) 9 (nI 0)) hW ⟨rfl, rfl, rfl, rfl, rfl, rfl, rfl, rfl, rfl, rfl, rfl, rfl, rfl, rfl, rfl, rfl, rfl⟩
        refine lv_iconst (v := nI 0) hx hb dX5_cover_41 (by decide) ?_
        refine lv_istore_n (lv' := [(3, .int _), (0, .ref _), (1, .int _), (2, .int _)]) hx hb dX5_cover_42 rfl hl (by decide) rfl (fun ls hl => ?_)
        have L43 : ∀ (fuel : Nat) (z : Nat), 41 - z < fuel → (z ≤ (cnt (tellB (S.1 0) n (hasB (matI (mw (S.1 0))))) n)) → (z ≤ q) → (cnt (grS (S.1 0) n (tellB (S.1 0) n (hasB (matI (mw (S.1 0))))) z).1 n + z = (cnt (tellB (S.1 0) n (hasB (matI (mw (S.1 0))))) n)) → ∀ (H : Heap), MW g o (uS (uA (uA (uA S 5 (setB (S.1 5) n (grS (S.1 0) n (tellB (S.1 0) n (hasB (matI (mw (S.1 0))))) z).1)) 6 (setB (S.1 6) n (grS (S.1 0) n (tellB (S.1 0) n (hasB (matI (mw (S.1 0))))) z).2.1)) 8 (setI (S.1 8) z (fun j => nI (gBs (S.1 0) n (tellB (S.1 0) n (hasB (matI (mw (S.1 0))))) j)))) 9 (nI z)) H → Off o s.heap H → ∀ (locs : List Loc), (∀ q ∈ locs, gLo g ≤ q.base) → ∀ (ls : Array Slot), lv_has ls 9 [(0, .ref o), (1, .int (nI q)), (2, .int (nI (cnt (tellB (S.1 0) n (hasB (matI (mw (S.1 0))))) n))), (3, .int (nI ((grS (S.1 0) n (tellB (S.1 0) n (hasB (matI (mw (S.1 0))))) z).2.2)))] → W p l e (rmL 7 0 0) s m args below meth c H locs 0 0 (MQ below (Qcg (fun r H H1 => r = some (.int (nI ((grS (S.1 0) n (tellB (S.1 0) n (hasB (matI (mw (S.1 0))))) (min (cnt (tellB (S.1 0) n (hasB (matI (mw (S.1 0))))) n) q)).2.2))) ∧ MW g o (uS (uA (uA (uA S 5 (setB (S.1 5) n (grS (S.1 0) n (tellB (S.1 0) n (hasB (matI (mw (S.1 0))))) (min (cnt (tellB (S.1 0) n (hasB (matI (mw (S.1 0))))) n) q)).1)) 6 (setB (S.1 6) n (grS (S.1 0) n (tellB (S.1 0) n (hasB (matI (mw (S.1 0))))) (min (cnt (tellB (S.1 0) n (hasB (matI (mw (S.1 0))))) n) q)).2.1)) 8 (setI (S.1 8) (min (cnt (tellB (S.1 0) n (hasB (matI (mw (S.1 0))))) n) q) (fun j => nI (gBs (S.1 0) n (tellB (S.1 0) n (hasB (matI (mw (S.1 0))))) j)))) 9 (nI (min (cnt (tellB (S.1 0) n (hasB (matI (mw (S.1 0))))) n) q))) H1 ∧ Off o H H1)) args s 0 0 (fre g)) (F0 m 43 ls []) := by
          intro fuel
          induction fuel with
          | zero => intro z hfu; exact absurd hfu (Nat.not_lt_zero _)
          | succ fuel ih43 =>
            intro z hfu hz hzq hcz H hW hO locs hL ls hl
            have hA := cnt_le (tellB (S.1 0) n (hasB (matI (mw (S.1 0))))) n
            refine lv_aload_n hx hb dX5_cover_43 rfl (lv_at hl 0 rfl) ?_
            refine mg_82 X rfl hW dX5_cover_44 (W.stk (w := (nI z)) rfl ?_)
            refine lv_iload_n hx hb dX5_cover_47 rfl (lv_at hl 2 rfl) ?_
            refine n_icmp_ge (tgt := 297) X dX5_cover_48 (by decide) (by omega) (by omega) (fun c_48 => ?_) (fun c_48 => ?_)
            ·
              refine lv_iload_n hx hb dX5_cover_297 rfl (lv_at hl 3 rfl) ?_
              exact r_iret X hL rfl rfl dX5_cover_298 (by omega) (by omega) ⟨(by rw [show z = min (cnt (tellB (S.1 0) n (hasB (matI (mw (S.1 0))))) n) q by omega]), (by have hz9 : z = min (cnt (tellB (S.1 0) n (hasB (matI (mw (S.1 0))))) n) q := (by omega); rw [hz9] at hW; exact hW), hO⟩
            ·
              refine lv_aload_n hx hb dX5_cover_51 rfl (lv_at hl 0 rfl) ?_
              refine mg_82 X rfl hW dX5_cover_52 (W.stk (w := (nI z)) rfl ?_)
              refine lv_iload_n hx hb dX5_cover_55 rfl (lv_at hl 1 rfl) ?_
              refine n_icmp_ge (tgt := 297) X dX5_cover_56 (by decide) (by omega) (by omega) (fun c_56 => ?_) (fun c_56 => ?_)
              ·
                refine lv_iload_n hx hb dX5_cover_297 rfl (lv_at hl 3 rfl) ?_
                exact r_iret X hL rfl rfl dX5_cover_298 (by omega) (by omega) ⟨(by rw [show z = min (cnt (tellB (S.1 0) n (hasB (matI (mw (S.1 0))))) n) q by omega]), (by have hz9 : z = min (cnt (tellB (S.1 0) n (hasB (matI (mw (S.1 0))))) n) q := (by omega); rw [hz9] at hW; exact hW), hO⟩
              ·
                refine lv_iconst (v := (-1)) hx hb dX5_cover_59 (by decide) ?_
                refine lv_istore (lv' := [(4, .int _), (0, .ref _), (1, .int _), (2, .int _), (3, .int _)]) hx hb dX5_cover_60 hl (by decide) rfl (fun ls hl => ?_)
                refine lv_iconst (v := (-1)) hx hb dX5_cover_62 (by decide) ?_
                refine lv_istore (lv' := [(5, .int _), (4, .int _), (0, .ref _), (1, .int _), (2, .int _), (3, .int _)]) hx hb dX5_cover_63 hl (by decide) rfl (fun ls hl => ?_)
                refine lv_iconst (v := nI 0) hx hb dX5_cover_65 (by decide) ?_
                refine lv_istore (lv' := [(6, .int _), (5, .int _), (4, .int _), (0, .ref _), (1, .int _), (2, .int _), (3, .int _)]) hx hb dX5_cover_66 hl (by decide) rfl (fun ls hl => ?_)
                have L68 : ∀ (fuel : Nat) (k : Nat), n - k < fuel → (k ≤ n) → ∀ (locs : List Loc), (∀ q ∈ locs, gLo g ≤ q.base) → ∀ (ls : Array Slot), lv_has ls 9 [(0, .ref o), (1, .int (nI q)), (2, .int (nI (cnt (tellB (S.1 0) n (hasB (matI (mw (S.1 0))))) n))), (3, .int (nI ((grS (S.1 0) n (tellB (S.1 0) n (hasB (matI (mw (S.1 0))))) z).2.2))), (4, .int (bcI (bcN (S.1 0) n (grS (S.1 0) n (tellB (S.1 0) n (hasB (matI (mw (S.1 0))))) z).1 (grS (S.1 0) n (tellB (S.1 0) n (hasB (matI (mw (S.1 0))))) z).2.1 k))), (5, .int (bcM (bcN (S.1 0) n (grS (S.1 0) n (tellB (S.1 0) n (hasB (matI (mw (S.1 0))))) z).1 (grS (S.1 0) n (tellB (S.1 0) n (hasB (matI (mw (S.1 0))))) z).2.1 k))), (6, .int (nI k))] → W p l e (rmL 7 0 0) s m args below meth c H locs 0 0 (MQ below (Qcg (fun r H H1 => r = some (.int (nI ((grS (S.1 0) n (tellB (S.1 0) n (hasB (matI (mw (S.1 0))))) (min (cnt (tellB (S.1 0) n (hasB (matI (mw (S.1 0))))) n) q)).2.2))) ∧ MW g o (uS (uA (uA (uA S 5 (setB (S.1 5) n (grS (S.1 0) n (tellB (S.1 0) n (hasB (matI (mw (S.1 0))))) (min (cnt (tellB (S.1 0) n (hasB (matI (mw (S.1 0))))) n) q)).1)) 6 (setB (S.1 6) n (grS (S.1 0) n (tellB (S.1 0) n (hasB (matI (mw (S.1 0))))) (min (cnt (tellB (S.1 0) n (hasB (matI (mw (S.1 0))))) n) q)).2.1)) 8 (setI (S.1 8) (min (cnt (tellB (S.1 0) n (hasB (matI (mw (S.1 0))))) n) q) (fun j => nI (gBs (S.1 0) n (tellB (S.1 0) n (hasB (matI (mw (S.1 0))))) j)))) 9 (nI (min (cnt (tellB (S.1 0) n (hasB (matI (mw (S.1 0))))) n) q))) H1 ∧ Off o H H1)) args s 0 0 (fre g)) (F0 m 68 ls []) := by
                  intro fuel
                  induction fuel with
                  | zero => intro k hfu; exact absurd hfu (Nat.not_lt_zero _)
                  | succ fuel ih68 =>
                    intro k hfu hk  locs hL ls hl
                    refine lv_iload hx hb dX5_cover_68 (lv_at hl 6 rfl) ?_
                    refine lv_aload_n hx hb dX5_cover_70 rfl (lv_at hl 0 rfl) ?_
                    refine mg_7 X rfl hW dX5_cover_71 ?_
                    refine lv_sipush (v := nI 160) hx hb dX5_cover_74 (by decide) ?_
                    refine m_ld (v := (nI n)) X hW 0 (by decide) rfl 160 rfl (by decide) (show (S.1 0) 160 = (nI n) from hN) dX5_cover_77 ?_
                    refine n_icmp_ge (tgt := 205) X dX5_cover_78 (by decide) (by omega) (by omega) (fun c_78 => ?_) (fun c_78 => ?_)
                    ·
                      have hkn : n = k := by omega
                      subst hkn
                      obtain ⟨hb1, hb2, hbl, hbt⟩ := gr_best (r := S.1 0) (n := n) (cv := (grS (S.1 0) n (tellB (S.1 0) n (hasB (matI (mw (S.1 0))))) z).2.1) hn (t := (grS (S.1 0) n (tellB (S.1 0) n (hasB (matI (mw (S.1 0))))) z).1) (by omega)
                      have hbl : (gBs (S.1 0) n (tellB (S.1 0) n (hasB (matI (mw (S.1 0))))) z) < n := hbl
                      have hbt : (grS (S.1 0) n (tellB (S.1 0) n (hasB (matI (mw (S.1 0))))) z).1 (gBs (S.1 0) n (tellB (S.1 0) n (hasB (matI (mw (S.1 0))))) z) = true := hbt
                      refine lv_iconst (v := nI 0) hx hb dX5_cover_205 (by decide) ?_
                      refine lv_istore (lv' := [(6, .int _), (0, .ref _), (1, .int _), (2, .int _), (3, .int _), (4, .int _), (5, .int _)]) hx hb dX5_cover_206 hl (by decide) rfl (fun ls hl => ?_)
                      have L208 : ∀ (fuel : Nat) (j : Nat), n - j < fuel → (j ≤ n) → ∀ (H : Heap), MW g o (uS (uA (uA (uA S 5 (setB (S.1 5) n (grS (S.1 0) n (tellB (S.1 0) n (hasB (matI (mw (S.1 0))))) z).1)) 6 (setB (setB (S.1 6) n (grS (S.1 0) n (tellB (S.1 0) n (hasB (matI (mw (S.1 0))))) z).2.1) j (fun j => (grS (S.1 0) n (tellB (S.1 0) n (hasB (matI (mw (S.1 0))))) z).2.1 j || beatB (S.1 0) (gBs (S.1 0) n (tellB (S.1 0) n (hasB (matI (mw (S.1 0))))) z) j))) 8 (setI (S.1 8) z (fun j => nI (gBs (S.1 0) n (tellB (S.1 0) n (hasB (matI (mw (S.1 0))))) j)))) 9 (nI z)) H → Off o s.heap H → ∀ (locs : List Loc), (∀ q ∈ locs, gLo g ≤ q.base) → ∀ (ls : Array Slot), lv_has ls 9 [(0, .ref o), (1, .int (nI q)), (2, .int (nI (cnt (tellB (S.1 0) n (hasB (matI (mw (S.1 0))))) n))), (3, .int (nI ((grS (S.1 0) n (tellB (S.1 0) n (hasB (matI (mw (S.1 0))))) z).2.2))), (4, .int (bcI (bcN (S.1 0) n (grS (S.1 0) n (tellB (S.1 0) n (hasB (matI (mw (S.1 0))))) z).1 (grS (S.1 0) n (tellB (S.1 0) n (hasB (matI (mw (S.1 0))))) z).2.1 n))), (5, .int (bcM (bcN (S.1 0) n (grS (S.1 0) n (tellB (S.1 0) n (hasB (matI (mw (S.1 0))))) z).1 (grS (S.1 0) n (tellB (S.1 0) n (hasB (matI (mw (S.1 0))))) z).2.1 n))), (6, .int (nI j))] → W p l e (rmL 7 0 0) s m args below meth c H locs 0 0 (MQ below (Qcg (fun r H H1 => r = some (.int (nI ((grS (S.1 0) n (tellB (S.1 0) n (hasB (matI (mw (S.1 0))))) (min (cnt (tellB (S.1 0) n (hasB (matI (mw (S.1 0))))) n) q)).2.2))) ∧ MW g o (uS (uA (uA (uA S 5 (setB (S.1 5) n (grS (S.1 0) n (tellB (S.1 0) n (hasB (matI (mw (S.1 0))))) (min (cnt (tellB (S.1 0) n (hasB (matI (mw (S.1 0))))) n) q)).1)) 6 (setB (S.1 6) n (grS (S.1 0) n (tellB (S.1 0) n (hasB (matI (mw (S.1 0))))) (min (cnt (tellB (S.1 0) n (hasB (matI (mw (S.1 0))))) n) q)).2.1)) 8 (setI (S.1 8) (min (cnt (tellB (S.1 0) n (hasB (matI (mw (S.1 0))))) n) q) (fun j => nI (gBs (S.1 0) n (tellB (S.1 0) n (hasB (matI (mw (S.1 0))))) j)))) 9 (nI (min (cnt (tellB (S.1 0) n (hasB (matI (mw (S.1 0))))) n) q))) H1 ∧ Off o H H1)) args s 0 0 (fre g)) (F0 m 208 ls []) := by
                        intro fuel
                        induction fuel with
                        | zero => intro j hfu; exact absurd hfu (Nat.not_lt_zero _)
                        | succ fuel ih208 =>
                          intro j hfu hj H hW hO locs hL ls hl
                          refine lv_iload hx hb dX5_cover_208 (lv_at hl 6 rfl) ?_
                          refine lv_aload_n hx hb dX5_cover_210 rfl (lv_at hl 0 rfl) ?_
                          refine mg_7 X rfl hW dX5_cover_211 ?_
                          refine lv_sipush (v := nI 160) hx hb dX5_cover_214 (by decide) ?_
                          refine m_ld (v := (nI n)) X hW 0 (by decide) rfl 160 rfl (by decide) (show (S.1 0) 160 = (nI n) from hN) dX5_cover_217 ?_
                          refine n_icmp_ge (tgt := 260) X dX5_cover_218 (by decide) (by omega) (by omega) (fun c_218 => ?_) (fun c_218 => ?_)
                          ·
                            have hW := MW.eqA (k := 6) (f := setB (setB (S.1 6) n (grS (S.1 0) n (tellB (S.1 0) n (hasB (matI (mw (S.1 0))))) z).2.1) j (fun j => (grS (S.1 0) n (tellB (S.1 0) n (hasB (matI (mw (S.1 0))))) z).2.1 j || beatB (S.1 0) (gBs (S.1 0) n (tellB (S.1 0) n (hasB (matI (mw (S.1 0))))) z) j)) (f1 := setB (S.1 6) n (grS (S.1 0) n (tellB (S.1 0) n (hasB (matI (mw (S.1 0))))) (z + 1)).2.1) hW (by rw [show j = n by omega]; exact setB_B _ _ _ _) rfl (fun h => MW.cast (S1 := uS (uA (uA (uA S 5 (setB (S.1 5) n (grS (S.1 0) n (tellB (S.1 0) n (hasB (matI (mw (S.1 0))))) z).1)) 6 (setB (S.1 6) n (grS (S.1 0) n (tellB (S.1 0) n (hasB (matI (mw (S.1 0))))) (z + 1)).2.1)) 8 (setI (S.1 8) z (fun j => nI (gBs (S.1 0) n (tellB (S.1 0) n (hasB (matI (mw (S.1 0))))) j)))) 9 (nI z)) h ⟨rfl, rfl, rfl, rfl, rfl, rfl, rfl, rfl, rfl, rfl, rfl, rfl, rfl, rfl, rfl, rfl, rfl⟩)
                            refine lv_aload_n hx hb dX5_cover_260 rfl (lv_at hl 0 rfl) ?_
                            refine mg_25 X rfl hW dX5_cover_261 ?_
                            refine lv_iload hx hb dX5_cover_264 (lv_at hl 4 rfl) ?_
                            refine W.stk (w := (nI (gBs (S.1 0) n (tellB (S.1 0) n (hasB (matI (mw (S.1 0))))) z))) hb1 ?_
                            refine lv_iconst (v := nI 0) hx hb dX5_cover_266 (by decide) ?_
                            refine m_zst X hL hW 5 (by decide) rfl (gBs (S.1 0) n (tellB (S.1 0) n (hasB (matI (mw (S.1 0))))) z) rfl (by show gBs (S.1 0) n (tellB (S.1 0) n (hasB (matI (mw (S.1 0))))) z < 41; omega) rfl dX5_cover_267 (fun H locs hL hW hO1 => ?_)
                            have hO := hO.trans hO1
                            have hW := MW.cast (S1 := uS (uA (uA (uA S 5 (upd (setB (S.1 5) n (grS (S.1 0) n (tellB (S.1 0) n (hasB (matI (mw (S.1 0))))) z).1) (gBs (S.1 0) n (tellB (S.1 0) n (hasB (matI (mw (S.1 0))))) z) (nI 0))) 6 (setB (S.1 6) n (grS (S.1 0) n (tellB (S.1 0) n (hasB (matI (mw (S.1 0))))) (z + 1)).2.1)) 8 (setI (S.1 8) z (fun j => nI (gBs (S.1 0) n (tellB (S.1 0) n (hasB (matI (mw (S.1 0))))) j)))) 9 (nI z)) hW ⟨rfl, rfl, rfl, rfl, rfl, rfl, rfl, rfl, rfl, rfl, rfl, rfl, rfl, rfl, rfl, rfl, rfl⟩
                            have hW := MW.eqA (k := 5) (f := upd (setB (S.1 5) n (grS (S.1 0) n (tellB (S.1 0) n (hasB (matI (mw (S.1 0))))) z).1) (gBs (S.1 0) n (tellB (S.1 0) n (hasB (matI (mw (S.1 0))))) z) (nI 0)) (f1 := setB (S.1 5) n (grS (S.1 0) n (tellB (S.1 0) n (hasB (matI (mw (S.1 0))))) (z + 1)).1) hW (setB_clr hbl) rfl (fun h => MW.cast (S1 := uS (uA (uA (uA S 5 (setB (S.1 5) n (grS (S.1 0) n (tellB (S.1 0) n (hasB (matI (mw (S.1 0))))) (z + 1)).1)) 6 (setB (S.1 6) n (grS (S.1 0) n (tellB (S.1 0) n (hasB (matI (mw (S.1 0))))) (z + 1)).2.1)) 8 (setI (S.1 8) z (fun j => nI (gBs (S.1 0) n (tellB (S.1 0) n (hasB (matI (mw (S.1 0))))) j)))) 9 (nI z)) h ⟨rfl, rfl, rfl, rfl, rfl, rfl, rfl, rfl, rfl, rfl, rfl, rfl, rfl, rfl, rfl, rfl, rfl⟩)
                            refine lv_aload_n hx hb dX5_cover_268 rfl (lv_at hl 0 rfl) ?_
                            refine mg_35 X rfl hW dX5_cover_269 ?_
                            refine lv_aload_n hx hb dX5_cover_272 rfl (lv_at hl 0 rfl) ?_
                            refine mg_82 X rfl hW dX5_cover_273 (W.stk (w := (nI z)) rfl ?_)
                            refine lv_iload hx hb dX5_cover_276 (lv_at hl 4 rfl) ?_
                            refine W.stk (w := (nI (gBs (S.1 0) n (tellB (S.1 0) n (hasB (matI (mw (S.1 0))))) z))) hb1 ?_
                            refine m_st X hL hW 8 (by decide) rfl z rfl (by show z < 40; omega) dX5_cover_278 (fun H locs hL hW hO1 => ?_)
                            have hO := hO.trans hO1
                            have hW := MW.cast (S1 := uS (uA (uA (uA S 5 (setB (S.1 5) n (grS (S.1 0) n (tellB (S.1 0) n (hasB (matI (mw (S.1 0))))) (z + 1)).1)) 6 (setB (S.1 6) n (grS (S.1 0) n (tellB (S.1 0) n (hasB (matI (mw (S.1 0))))) (z + 1)).2.1)) 8 (upd (setI (S.1 8) z (fun j => nI (gBs (S.1 0) n (tellB (S.1 0) n (hasB (matI (mw (S.1 0))))) j))) z (nI (gBs (S.1 0) n (tellB (S.1 0) n (hasB (matI (mw (S.1 0))))) z)))) 9 (nI z)) hW ⟨rfl, rfl, rfl, rfl, rfl, rfl, rfl, rfl, rfl, rfl, rfl, rfl, rfl, rfl, rfl, rfl, rfl⟩
                            have hW := MW.eqA (k := 8) (f := upd (setI (S.1 8) z (fun j => nI (gBs (S.1 0) n (tellB (S.1 0) n (hasB (matI (mw (S.1 0))))) j))) z (nI (gBs (S.1 0) n (tellB (S.1 0) n (hasB (matI (mw (S.1 0))))) z))) (f1 := setI (S.1 8) (z + 1) (fun j => nI (gBs (S.1 0) n (tellB (S.1 0) n (hasB (matI (mw (S.1 0))))) j))) hW (setI_s _ _ _ rfl) rfl (fun h => MW.cast (S1 := uS (uA (uA (uA S 5 (setB (S.1 5) n (grS (S.1 0) n (tellB (S.1 0) n (hasB (matI (mw (S.1 0))))) (z + 1)).1)) 6 (setB (S.1 6) n (grS (S.1 0) n (tellB (S.1 0) n (hasB (matI (mw (S.1 0))))) (z + 1)).2.1)) 8 (setI (S.1 8) (z + 1) (fun j => nI (gBs (S.1 0) n (tellB (S.1 0) n (hasB (matI (mw (S.1 0))))) j)))) 9 (nI z)) h ⟨rfl, rfl, rfl, rfl, rfl, rfl, rfl, rfl, rfl, rfl, rfl, rfl, rfl, rfl, rfl, rfl, rfl⟩)
                            refine lv_aload_n hx hb dX5_cover_279 rfl (lv_at hl 0 rfl) ?_
                            refine lv_dup hx hb dX5_cover_280 rfl ?_
                            refine mg_82 X rfl hW dX5_cover_281 (W.stk (w := (nI z)) rfl ?_)
                            refine lv_iconst (v := nI 1) hx hb dX5_cover_284 (by decide) ?_
                            refine n_iadd X dX5_cover_285 ?_
                            refine mp_82 X rfl hL hW dX5_cover_286 (fun H locs hL hW hO1 => ?_)
                            have hO := hO.trans hO1
                            have hW := MW.cast (S1 := uS (uA (uA (uA S 5 (setB (S.1 5) n (grS (S.1 0) n (tellB (S.1 0) n (hasB (matI (mw (S.1 0))))) (z + 1)).1)) 6 (setB (S.1 6) n (grS (S.1 0) n (tellB (S.1 0) n (hasB (matI (mw (S.1 0))))) (z + 1)).2.1)) 8 (setI (S.1 8) (z + 1) (fun j => nI (gBs (S.1 0) n (tellB (S.1 0) n (hasB (matI (mw (S.1 0))))) j)))) 9 (nI (z + 1))) hW ⟨rfl, rfl, rfl, rfl, rfl, rfl, rfl, rfl, rfl, rfl, rfl, rfl, rfl, rfl, rfl, rfl, rfl⟩
                            refine lv_iload_n hx hb dX5_cover_289 rfl (lv_at hl 3 rfl) ?_
                            refine lv_iload hx hb dX5_cover_290 (lv_at hl 5 rfl) ?_
                            refine W.stk (w := (nI (gaN (S.1 0) n (grS (S.1 0) n (tellB (S.1 0) n (hasB (matI (mw (S.1 0))))) z).2.1 (gBs (S.1 0) n (tellB (S.1 0) n (hasB (matI (mw (S.1 0))))) z)))) hb2 ?_
                            refine n_iadd X dX5_cover_292 ?_
                            refine lv_istore_n (lv' := [(3, .int _), (0, .ref _), (1, .int _), (2, .int _), (4, .int _), (5, .int _), (6, .int _)]) hx hb dX5_cover_293 rfl hl (by decide) rfl (fun ls hl => ?_)
                            refine lv_goto (tgt := 43) hx hb dX5_cover_294 (by decide) ?_
                            exact ih43 (z + 1) (by omega) (by omega) (by omega) (by have := cnt_clr hbt hbl; show cnt (fun j => (grS (S.1 0) n (tellB (S.1 0) n (hasB (matI (mw (S.1 0))))) z).1 j && !decide (j = (gBs (S.1 0) n (tellB (S.1 0) n (hasB (matI (mw (S.1 0))))) z))) n + (z + 1) = _; omega) _ hW hO _ hL ls (lv_sub hl [1, 2, 3, 0] rfl)
                          ·
                            refine lv_aload_n hx hb dX5_cover_221 rfl (lv_at hl 0 rfl) ?_
                            refine mg_29 X rfl hW dX5_cover_222 ?_
                            refine lv_iload hx hb dX5_cover_225 (lv_at hl 6 rfl) ?_
                            refine lv_aload_n hx hb dX5_cover_227 rfl (lv_at hl 0 rfl) ?_
                            refine mg_29 X rfl hW dX5_cover_228 ?_
                            refine lv_iload hx hb dX5_cover_231 (lv_at hl 6 rfl) ?_
                            refine m_zld (v := (bI ((grS (S.1 0) n (tellB (S.1 0) n (hasB (matI (mw (S.1 0))))) z).2.1 j))) X hW 6 (by decide) rfl j rfl (by show j < 40; omega) (show (setB (setB (S.1 6) n (grS (S.1 0) n (tellB (S.1 0) n (hasB (matI (mw (S.1 0))))) z).2.1) j (fun j => (grS (S.1 0) n (tellB (S.1 0) n (hasB (matI (mw (S.1 0))))) z).2.1 j || beatB (S.1 0) (gBs (S.1 0) n (tellB (S.1 0) n (hasB (matI (mw (S.1 0))))) z) j)) j = (bI ((grS (S.1 0) n (tellB (S.1 0) n (hasB (matI (mw (S.1 0))))) z).2.1 j)) from (setB_r (Nat.le_refl _) (by omega))) dX5_cover_233 ?_
                            refine b_ifne (tgt := 248) X dX5_cover_234 (by decide) (fun c_234 => ?_) (fun c_234 => ?_)
                            ·
                              refine lv_iconst (v := nI 1) hx hb dX5_cover_248 (by decide) ?_
                              refine lv_goto (tgt := 253) hx hb dX5_cover_249 (by decide) ?_
                              refine m_zst X hL hW 6 (by decide) rfl j rfl (by show j < 40; omega) rfl dX5_cover_253 (fun H locs hL hW hO1 => ?_)
                              have hO := hO.trans hO1
                              have hW := MW.cast (S1 := uS (uA (uA (uA S 5 (setB (S.1 5) n (grS (S.1 0) n (tellB (S.1 0) n (hasB (matI (mw (S.1 0))))) z).1)) 6 (upd (setB (setB (S.1 6) n (grS (S.1 0) n (tellB (S.1 0) n (hasB (matI (mw (S.1 0))))) z).2.1) j (fun j => (grS (S.1 0) n (tellB (S.1 0) n (hasB (matI (mw (S.1 0))))) z).2.1 j || beatB (S.1 0) (gBs (S.1 0) n (tellB (S.1 0) n (hasB (matI (mw (S.1 0))))) z) j)) j (nI 1))) 8 (setI (S.1 8) z (fun j => nI (gBs (S.1 0) n (tellB (S.1 0) n (hasB (matI (mw (S.1 0))))) j)))) 9 (nI z)) hW ⟨rfl, rfl, rfl, rfl, rfl, rfl, rfl, rfl, rfl, rfl, rfl, rfl, rfl, rfl, rfl, rfl, rfl⟩
                              have hW := MW.eqA (k := 6) (f := upd (setB (setB (S.1 6) n (grS (S.1 0) n (tellB (S.1 0) n (hasB (matI (mw (S.1 0))))) z).2.1) j (fun j => (grS (S.1 0) n (tellB (S.1 0) n (hasB (matI (mw (S.1 0))))) z).2.1 j || beatB (S.1 0) (gBs (S.1 0) n (tellB (S.1 0) n (hasB (matI (mw (S.1 0))))) z) j)) j (nI 1)) (f1 := setB (setB (S.1 6) n (grS (S.1 0) n (tellB (S.1 0) n (hasB (matI (mw (S.1 0))))) z).2.1) (j + 1) (fun j => (grS (S.1 0) n (tellB (S.1 0) n (hasB (matI (mw (S.1 0))))) z).2.1 j || beatB (S.1 0) (gBs (S.1 0) n (tellB (S.1 0) n (hasB (matI (mw (S.1 0))))) z) j)) hW (setB_s _ _ _ (by first | (simp [c_234]; rfl) | (simp [c_234, c_245]; rfl))) rfl (fun h => MW.cast (S1 := uS (uA (uA (uA S 5 (setB (S.1 5) n (grS (S.1 0) n (tellB (S.1 0) n (hasB (matI (mw (S.1 0))))) z).1)) 6 (setB (setB (S.1 6) n (grS (S.1 0) n (tellB (S.1 0) n (hasB (matI (mw (S.1 0))))) z).2.1) (j + 1) (fun j => (grS (S.1 0) n (tellB (S.1 0) n (hasB (matI (mw (S.1 0))))) z).2.1 j || beatB (S.1 0) (gBs (S.1 0) n (tellB (S.1 0) n (hasB (matI (mw (S.1 0))))) z) j))) 8 (setI (S.1 8) z (fun j => nI (gBs (S.1 0) n (tellB (S.1 0) n (hasB (matI (mw (S.1 0))))) j)))) 9 (nI z)) h ⟨rfl, rfl, rfl, rfl, rfl, rfl, rfl, rfl, rfl, rfl, rfl, rfl, rfl, rfl, rfl, rfl, rfl⟩)
                              refine lv_iinc (v := nI (j + 1)) (lv' := [(6, .int _), (0, .ref _), (1, .int _), (2, .int _), (3, .int _), (4, .int _), (5, .int _)]) hx hb dX5_cover_254 hl (k := 6) rfl (nI_iinc _ 1 rfl) (by decide) rfl (fun ls hl => ?_)
                              refine lv_goto (tgt := 208) hx hb dX5_cover_257 (by decide) ?_
                              exact ih208 (j + 1) (by omega) (by omega) _ hW hO _ hL ls (lv_sub hl [1, 2, 3, 4, 5, 6, 0] rfl)
                            ·
                              refine lv_aload_n hx hb dX5_cover_237 rfl (lv_at hl 0 rfl) ?_
                              refine lv_iload hx hb dX5_cover_238 (lv_at hl 4 rfl) ?_
                              refine W.stk (w := (nI (gBs (S.1 0) n (tellB (S.1 0) n (hasB (matI (mw (S.1 0))))) z))) hb1 ?_
                              refine lv_iload hx hb dX5_cover_240 (lv_at hl 6 rfl) ?_
                              refine Cp.callV (v := .int (bI (beatB (S.1 0) (gBs (S.1 0) n (tellB (S.1 0) n (hasB (matI (mw (S.1 0))))) z) j))) (ct_X5_beat l g o (gBs (S.1 0) n (tellB (S.1 0) n (hasB (matI (mw (S.1 0))))) z) j (uS (uA (uA (uA S 5 (setB (S.1 5) n (grS (S.1 0) n (tellB (S.1 0) n (hasB (matI (mw (S.1 0))))) z).1)) 6 (setB (setB (S.1 6) n (grS (S.1 0) n (tellB (S.1 0) n (hasB (matI (mw (S.1 0))))) z).2.1) j (fun j => (grS (S.1 0) n (tellB (S.1 0) n (hasB (matI (mw (S.1 0))))) z).2.1 j || beatB (S.1 0) (gBs (S.1 0) n (tellB (S.1 0) n (hasB (matI (mw (S.1 0))))) z) j))) 8 (setI (S.1 8) z (fun j => nI (gBs (S.1 0) n (tellB (S.1 0) n (hasB (matI (mw (S.1 0))))) j)))) 9 (nI z)) (by omega) (by omega)) X hL hl vb_X5_beat q2083 (hW.2.1.recv hKV rfl) rfl rfl (Nat.le_of_ble_eq_true rfl) dX5_cover_242 ⟨Nat.le_of_ble_eq_true rfl, Nat.le_of_ble_eq_true rfl⟩ (by omega) (by omega) hW (fun locs hL => ?_)
                              refine b_ifeq (tgt := 252) X dX5_cover_245 (by decide) (fun c_245 => ?_) (fun c_245 => ?_)
                              ·
                                refine lv_iconst (v := nI 0) hx hb dX5_cover_252 (by decide) ?_
                                refine m_zst X hL hW 6 (by decide) rfl j rfl (by show j < 40; omega) rfl dX5_cover_253 (fun H locs hL hW hO1 => ?_)
                                have hO := hO.trans hO1
                                have hW := MW.cast (S1 := uS (uA (uA (uA S 5 (setB (S.1 5) n (grS (S.1 0) n (tellB (S.1 0) n (hasB (matI (mw (S.1 0))))) z).1)) 6 (upd (setB (setB (S.1 6) n (grS (S.1 0) n (tellB (S.1 0) n (hasB (matI (mw (S.1 0))))) z).2.1) j (fun j => (grS (S.1 0) n (tellB (S.1 0) n (hasB (matI (mw (S.1 0))))) z).2.1 j || beatB (S.1 0) (gBs (S.1 0) n (tellB (S.1 0) n (hasB (matI (mw (S.1 0))))) z) j)) j (nI 0))) 8 (setI (S.1 8) z (fun j => nI (gBs (S.1 0) n (tellB (S.1 0) n (hasB (matI (mw (S.1 0))))) j)))) 9 (nI z)) hW ⟨rfl, rfl, rfl, rfl, rfl, rfl, rfl, rfl, rfl, rfl, rfl, rfl, rfl, rfl, rfl, rfl, rfl⟩
                                have hW := MW.eqA (k := 6) (f := upd (setB (setB (S.1 6) n (grS (S.1 0) n (tellB (S.1 0) n (hasB (matI (mw (S.1 0))))) z).2.1) j (fun j => (grS (S.1 0) n (tellB (S.1 0) n (hasB (matI (mw (S.1 0))))) z).2.1 j || beatB (S.1 0) (gBs (S.1 0) n (tellB (S.1 0) n (hasB (matI (mw (S.1 0))))) z) j)) j (nI 0)) (f1 := setB (setB (S.1 6) n (grS (S.1 0) n (tellB (S.1 0) n (hasB (matI (mw (S.1 0))))) z).2.1) (j + 1) (fun j => (grS (S.1 0) n (tellB (S.1 0) n (hasB (matI (mw (S.1 0))))) z).2.1 j || beatB (S.1 0) (gBs (S.1 0) n (tellB (S.1 0) n (hasB (matI (mw (S.1 0))))) z) j)) hW (setB_s _ _ _ (by first | (simp [c_234]; rfl) | (simp [c_234, c_245]; rfl))) rfl (fun h => MW.cast (S1 := uS (uA (uA (uA S 5 (setB (S.1 5) n (grS (S.1 0) n (tellB (S.1 0) n (hasB (matI (mw (S.1 0))))) z).1)) 6 (setB (setB (S.1 6) n (grS (S.1 0) n (tellB (S.1 0) n (hasB (matI (mw (S.1 0))))) z).2.1) (j + 1) (fun j => (grS (S.1 0) n (tellB (S.1 0) n (hasB (matI (mw (S.1 0))))) z).2.1 j || beatB (S.1 0) (gBs (S.1 0) n (tellB (S.1 0) n (hasB (matI (mw (S.1 0))))) z) j))) 8 (setI (S.1 8) z (fun j => nI (gBs (S.1 0) n (tellB (S.1 0) n (hasB (matI (mw (S.1 0))))) j)))) 9 (nI z)) h ⟨rfl, rfl, rfl, rfl, rfl, rfl, rfl, rfl, rfl, rfl, rfl, rfl, rfl, rfl, rfl, rfl, rfl⟩)
                                refine lv_iinc (v := nI (j + 1)) (lv' := [(6, .int _), (0, .ref _), (1, .int _), (2, .int _), (3, .int _), (4, .int _), (5, .int _)]) hx hb dX5_cover_254 hl (k := 6) rfl (nI_iinc _ 1 rfl) (by decide) rfl (fun ls hl => ?_)
                                refine lv_goto (tgt := 208) hx hb dX5_cover_257 (by decide) ?_
                                exact ih208 (j + 1) (by omega) (by omega) _ hW hO _ hL ls (lv_sub hl [1, 2, 3, 4, 5, 6, 0] rfl)
                              ·
                                refine lv_iconst (v := nI 1) hx hb dX5_cover_248 (by decide) ?_
                                refine lv_goto (tgt := 253) hx hb dX5_cover_249 (by decide) ?_
                                refine m_zst X hL hW 6 (by decide) rfl j rfl (by show j < 40; omega) rfl dX5_cover_253 (fun H locs hL hW hO1 => ?_)
                                have hO := hO.trans hO1
                                have hW := MW.cast (S1 := uS (uA (uA (uA S 5 (setB (S.1 5) n (grS (S.1 0) n (tellB (S.1 0) n (hasB (matI (mw (S.1 0))))) z).1)) 6 (upd (setB (setB (S.1 6) n (grS (S.1 0) n (tellB (S.1 0) n (hasB (matI (mw (S.1 0))))) z).2.1) j (fun j => (grS (S.1 0) n (tellB (S.1 0) n (hasB (matI (mw (S.1 0))))) z).2.1 j || beatB (S.1 0) (gBs (S.1 0) n (tellB (S.1 0) n (hasB (matI (mw (S.1 0))))) z) j)) j (nI 1))) 8 (setI (S.1 8) z (fun j => nI (gBs (S.1 0) n (tellB (S.1 0) n (hasB (matI (mw (S.1 0))))) j)))) 9 (nI z)) hW ⟨rfl, rfl, rfl, rfl, rfl, rfl, rfl, rfl, rfl, rfl, rfl, rfl, rfl, rfl, rfl, rfl, rfl⟩
                                have hW := MW.eqA (k := 6) (f := upd (setB (setB (S.1 6) n (grS (S.1 0) n (tellB (S.1 0) n (hasB (matI (mw (S.1 0))))) z).2.1) j (fun j => (grS (S.1 0) n (tellB (S.1 0) n (hasB (matI (mw (S.1 0))))) z).2.1 j || beatB (S.1 0) (gBs (S.1 0) n (tellB (S.1 0) n (hasB (matI (mw (S.1 0))))) z) j)) j (nI 1)) (f1 := setB (setB (S.1 6) n (grS (S.1 0) n (tellB (S.1 0) n (hasB (matI (mw (S.1 0))))) z).2.1) (j + 1) (fun j => (grS (S.1 0) n (tellB (S.1 0) n (hasB (matI (mw (S.1 0))))) z).2.1 j || beatB (S.1 0) (gBs (S.1 0) n (tellB (S.1 0) n (hasB (matI (mw (S.1 0))))) z) j)) hW (setB_s _ _ _ (by first | (simp [c_234]; rfl) | (simp [c_234, c_245]; rfl))) rfl (fun h => MW.cast (S1 := uS (uA (uA (uA S 5 (setB (S.1 5) n (grS (S.1 0) n (tellB (S.1 0) n (hasB (matI (mw (S.1 0))))) z).1)) 6 (setB (setB (S.1 6) n (grS (S.1 0) n (tellB (S.1 0) n (hasB (matI (mw (S.1 0))))) z).2.1) (j + 1) (fun j => (grS (S.1 0) n (tellB (S.1 0) n (hasB (matI (mw (S.1 0))))) z).2.1 j || beatB (S.1 0) (gBs (S.1 0) n (tellB (S.1 0) n (hasB (matI (mw (S.1 0))))) z) j))) 8 (setI (S.1 8) z (fun j => nI (gBs (S.1 0) n (tellB (S.1 0) n (hasB (matI (mw (S.1 0))))) j)))) 9 (nI z)) h ⟨rfl, rfl, rfl, rfl, rfl, rfl, rfl, rfl, rfl, rfl, rfl, rfl, rfl, rfl, rfl, rfl, rfl⟩)
                                refine lv_iinc (v := nI (j + 1)) (lv' := [(6, .int _), (0, .ref _), (1, .int _), (2, .int _), (3, .int _), (4, .int _), (5, .int _)]) hx hb dX5_cover_254 hl (k := 6) rfl (nI_iinc _ 1 rfl) (by decide) rfl (fun ls hl => ?_)
                                refine lv_goto (tgt := 208) hx hb dX5_cover_257 (by decide) ?_
                                exact ih208 (j + 1) (by omega) (by omega) _ hW hO _ hL ls (lv_sub hl [1, 2, 3, 4, 5, 6, 0] rfl)
                      exact L208 (n + 1) 0 (by omega) (by omega) _ (MW.cast hW ⟨rfl, rfl, rfl, rfl, rfl, rfl, (setB_0 (setB (S.1 6) n (grS (S.1 0) n (tellB (S.1 0) n (hasB (matI (mw (S.1 0))))) z).2.1) (fun j => (grS (S.1 0) n (tellB (S.1 0) n (hasB (matI (mw (S.1 0))))) z).2.1 j || beatB (S.1 0) (gBs (S.1 0) n (tellB (S.1 0) n (hasB (matI (mw (S.1 0))))) z) j)).symm, rfl, rfl, rfl, rfl, rfl, rfl, rfl, rfl, rfl, rfl⟩) hO _ hL ls (lv_sub hl [1, 2, 3, 4, 5, 6, 0] rfl)
                    ·
                      refine lv_iconst (v := nI 0) hx hb dX5_cover_81 (by decide) ?_
                      refine lv_istore (lv' := [(7, .int _), (0, .ref _), (1, .int _), (2, .int _), (3, .int _), (4, .int _), (5, .int _), (6, .int _)]) hx hb dX5_cover_82 hl (by decide) rfl (fun ls hl => ?_)
                      refine lv_iconst (v := nI 0) hx hb dX5_cover_84 (by decide) ?_
                      refine lv_istore (lv' := [(8, .int _), (7, .int _), (0, .ref _), (1, .int _), (2, .int _), (3, .int _), (4, .int _), (5, .int _), (6, .int _)]) hx hb dX5_cover_85 hl (by decide) rfl (fun ls hl => ?_)
                      have C147 : ∀ (v : Nat), ((grS (S.1 0) n (tellB (S.1 0) n (hasB (matI (mw (S.1 0))))) z).1 k = true → gaN (S.1 0) n (grS (S.1 0) n (tellB (S.1 0) n (hasB (matI (mw (S.1 0))))) z).2.1 k = v) → ∀ (locs : List Loc), (∀ q ∈ locs, gLo g ≤ q.base) → ∀ (ls : Array Slot), lv_has ls 9 [(0, .ref o), (1, .int (nI q)), (2, .int (nI (cnt (tellB (S.1 0) n (hasB (matI (mw (S.1 0))))) n))), (3, .int (nI ((grS (S.1 0) n (tellB (S.1 0) n (hasB (matI (mw (S.1 0))))) z).2.2))), (4, .int (bcI (bcN (S.1 0) n (grS (S.1 0) n (tellB (S.1 0) n (hasB (matI (mw (S.1 0))))) z).1 (grS (S.1 0) n (tellB (S.1 0) n (hasB (matI (mw (S.1 0))))) z).2.1 k))), (5, .int (bcM (bcN (S.1 0) n (grS (S.1 0) n (tellB (S.1 0) n (hasB (matI (mw (S.1 0))))) z).1 (grS (S.1 0) n (tellB (S.1 0) n (hasB (matI (mw (S.1 0))))) z).2.1 k))), (6, .int (nI k)), (7, .int (nI v))] → W p l e (rmL 7 0 0) s m args below meth c H locs 0 0 (MQ below (Qcg (fun r H H1 => r = some (.int (nI ((grS (S.1 0) n (tellB (S.1 0) n (hasB (matI (mw (S.1 0))))) (min (cnt (tellB (S.1 0) n (hasB (matI (mw (S.1 0))))) n) q)).2.2))) ∧ MW g o (uS (uA (uA (uA S 5 (setB (S.1 5) n (grS (S.1 0) n (tellB (S.1 0) n (hasB (matI (mw (S.1 0))))) (min (cnt (tellB (S.1 0) n (hasB (matI (mw (S.1 0))))) n) q)).1)) 6 (setB (S.1 6) n (grS (S.1 0) n (tellB (S.1 0) n (hasB (matI (mw (S.1 0))))) (min (cnt (tellB (S.1 0) n (hasB (matI (mw (S.1 0))))) n) q)).2.1)) 8 (setI (S.1 8) (min (cnt (tellB (S.1 0) n (hasB (matI (mw (S.1 0))))) n) q) (fun j => nI (gBs (S.1 0) n (tellB (S.1 0) n (hasB (matI (mw (S.1 0))))) j)))) 9 (nI (min (cnt (tellB (S.1 0) n (hasB (matI (mw (S.1 0))))) n) q))) H1 ∧ Off o H H1)) args s 0 0 (fre g)) (F0 m 147 ls []) := by
                        intro v hg  locs hL ls hl
                        refine lv_aload_n hx hb dX5_cover_147 rfl (lv_at hl 0 rfl) ?_
                        refine mg_25 X rfl hW dX5_cover_148 ?_
                        refine lv_iload hx hb dX5_cover_151 (lv_at hl 6 rfl) ?_
                        refine m_zld (v := (bI ((grS (S.1 0) n (tellB (S.1 0) n (hasB (matI (mw (S.1 0))))) z).1 k))) X hW 5 (by decide) rfl k rfl (by show k < 41; omega) (show (setB (S.1 5) n (grS (S.1 0) n (tellB (S.1 0) n (hasB (matI (mw (S.1 0))))) z).1) k = (bI ((grS (S.1 0) n (tellB (S.1 0) n (hasB (matI (mw (S.1 0))))) z).1 k)) from (setB_l (by omega))) dX5_cover_153 ?_
                        refine b_ifeq (tgt := 169) X dX5_cover_154 (by decide) (fun c_154 => ?_) (fun c_154 => ?_)
                        ·
                          refine lv_iload hx hb dX5_cover_169 (lv_at hl 4 rfl) ?_
                          refine W.stk (w := (bcI (bcN (S.1 0) n (grS (S.1 0) n (tellB (S.1 0) n (hasB (matI (mw (S.1 0))))) z).1 (grS (S.1 0) n (tellB (S.1 0) n (hasB (matI (mw (S.1 0))))) z).2.1 (k + 1)))) (by rw [(bcN_f c_154)]) ?_
                          refine lv_istore (lv' := [(4, .int _), (0, .ref _), (1, .int _), (2, .int _), (3, .int _), (5, .int _), (6, .int _), (7, .int _)]) hx hb dX5_cover_171 hl (by decide) rfl (fun ls hl => ?_)
                          refine lv_aload_n hx hb dX5_cover_173 rfl (lv_at hl 1 rfl) ?_
                          refine mg_25 X rfl hW dX5_cover_174 ?_
                          refine lv_iload hx hb dX5_cover_177 (lv_at hl 6 rfl) ?_
                          refine m_zld (v := (bI ((grS (S.1 0) n (tellB (S.1 0) n (hasB (matI (mw (S.1 0))))) z).1 k))) X hW 5 (by decide) rfl k rfl (by show k < 41; omega) (show (setB (S.1 5) n (grS (S.1 0) n (tellB (S.1 0) n (hasB (matI (mw (S.1 0))))) z).1) k = (bI ((grS (S.1 0) n (tellB (S.1 0) n (hasB (matI (mw (S.1 0))))) z).1 k)) from (setB_l (by omega))) dX5_cover_179 ?_
                          refine b_ifeq (tgt := 195) X dX5_cover_180 (by decide) (fun c_180 => ?_) (fun c_180 => ?_)
                          ·
                            refine lv_iload hx hb dX5_cover_195 (lv_at hl 5 rfl) ?_
                            refine W.stk (w := (bcM (bcN (S.1 0) n (grS (S.1 0) n (tellB (S.1 0) n (hasB (matI (mw (S.1 0))))) z).1 (grS (S.1 0) n (tellB (S.1 0) n (hasB (matI (mw (S.1 0))))) z).2.1 (k + 1)))) (by rw [(bcN_f c_154)]) ?_
                            refine lv_istore (lv' := [(5, .int _), (4, .int _), (0, .ref _), (1, .int _), (2, .int _), (3, .int _), (6, .int _), (7, .int _)]) hx hb dX5_cover_197 hl (by decide) rfl (fun ls hl => ?_)
                            refine lv_iinc (v := nI (k + 1)) (lv' := [(6, .int _), (5, .int _), (4, .int _), (0, .ref _), (1, .int _), (2, .int _), (3, .int _), (7, .int _)]) hx hb dX5_cover_199 hl (k := 6) rfl (nI_iinc _ 1 rfl) (by decide) rfl (fun ls hl => ?_)
                            refine lv_goto (tgt := 68) hx hb dX5_cover_202 (by decide) ?_
                            exact ih68 (k + 1) (by omega) (by omega) _ hL ls (lv_sub hl [3, 4, 5, 6, 2, 1, 0] rfl)
                          ·
                            exact absurd (c_154.symm.trans c_180) (by decide)
                        ·
                          refine lv_iload hx hb dX5_cover_157 (lv_at hl 7 rfl) ?_
                          refine lv_iload hx hb dX5_cover_159 (lv_at hl 5 rfl) ?_
                          refine lv_icmp_le (tgt := 169) hx hb dX5_cover_161 (by decide) (fun c_161 => ?_) (fun c_161 => ?_)
                          ·
                            refine lv_iload hx hb dX5_cover_169 (lv_at hl 4 rfl) ?_
                            refine W.stk (w := (bcI (bcN (S.1 0) n (grS (S.1 0) n (tellB (S.1 0) n (hasB (matI (mw (S.1 0))))) z).1 (grS (S.1 0) n (tellB (S.1 0) n (hasB (matI (mw (S.1 0))))) z).2.1 (k + 1)))) (by rw [(bcN_f2 (hg c_154 ▸ c_161))]) ?_
                            refine lv_istore (lv' := [(4, .int _), (0, .ref _), (1, .int _), (2, .int _), (3, .int _), (5, .int _), (6, .int _), (7, .int _)]) hx hb dX5_cover_171 hl (by decide) rfl (fun ls hl => ?_)
                            refine lv_aload_n hx hb dX5_cover_173 rfl (lv_at hl 1 rfl) ?_
                            refine mg_25 X rfl hW dX5_cover_174 ?_
                            refine lv_iload hx hb dX5_cover_177 (lv_at hl 6 rfl) ?_
                            refine m_zld (v := (bI ((grS (S.1 0) n (tellB (S.1 0) n (hasB (matI (mw (S.1 0))))) z).1 k))) X hW 5 (by decide) rfl k rfl (by show k < 41; omega) (show (setB (S.1 5) n (grS (S.1 0) n (tellB (S.1 0) n (hasB (matI (mw (S.1 0))))) z).1) k = (bI ((grS (S.1 0) n (tellB (S.1 0) n (hasB (matI (mw (S.1 0))))) z).1 k)) from (setB_l (by omega))) dX5_cover_179 ?_
                            refine b_ifeq (tgt := 195) X dX5_cover_180 (by decide) (fun c_180 => ?_) (fun c_180 => ?_)
                            ·
                              exact absurd (c_154.symm.trans c_180) (by decide)
                            ·
                              refine lv_iload hx hb dX5_cover_183 (lv_at hl 7 rfl) ?_
                              refine lv_iload hx hb dX5_cover_185 (lv_at hl 5 rfl) ?_
                              refine lv_icmp_le (tgt := 195) hx hb dX5_cover_187 (by decide) (fun c_187 => ?_) (fun c_187 => ?_)
                              ·
                                refine lv_iload hx hb dX5_cover_195 (lv_at hl 5 rfl) ?_
                                refine W.stk (w := (bcM (bcN (S.1 0) n (grS (S.1 0) n (tellB (S.1 0) n (hasB (matI (mw (S.1 0))))) z).1 (grS (S.1 0) n (tellB (S.1 0) n (hasB (matI (mw (S.1 0))))) z).2.1 (k + 1)))) (by rw [(bcN_f2 (hg c_154 ▸ c_161))]) ?_
                                refine lv_istore (lv' := [(5, .int _), (4, .int _), (0, .ref _), (1, .int _), (2, .int _), (3, .int _), (6, .int _), (7, .int _)]) hx hb dX5_cover_197 hl (by decide) rfl (fun ls hl => ?_)
                                refine lv_iinc (v := nI (k + 1)) (lv' := [(6, .int _), (5, .int _), (4, .int _), (0, .ref _), (1, .int _), (2, .int _), (3, .int _), (7, .int _)]) hx hb dX5_cover_199 hl (k := 6) rfl (nI_iinc _ 1 rfl) (by decide) rfl (fun ls hl => ?_)
                                refine lv_goto (tgt := 68) hx hb dX5_cover_202 (by decide) ?_
                                exact ih68 (k + 1) (by omega) (by omega) _ hL ls (lv_sub hl [3, 4, 5, 6, 2, 1, 0] rfl)
                              ·
                                exact absurd c_161 c_187
                          ·
                            refine lv_iload hx hb dX5_cover_164 (lv_at hl 6 rfl) ?_
                            refine W.stk (w := (bcI (bcN (S.1 0) n (grS (S.1 0) n (tellB (S.1 0) n (hasB (matI (mw (S.1 0))))) z).1 (grS (S.1 0) n (tellB (S.1 0) n (hasB (matI (mw (S.1 0))))) z).2.1 (k + 1)))) (by rw [(bcN_t c_154 (hg c_154 ▸ lt_of_nle c_161))]; rfl) ?_
                            refine lv_goto (tgt := 171) hx hb dX5_cover_166 (by decide) ?_
                            refine lv_istore (lv' := [(4, .int _), (0, .ref _), (1, .int _), (2, .int _), (3, .int _), (5, .int _), (6, .int _), (7, .int _)]) hx hb dX5_cover_171 hl (by decide) rfl (fun ls hl => ?_)
                            refine lv_aload_n hx hb dX5_cover_173 rfl (lv_at hl 1 rfl) ?_
                            refine mg_25 X rfl hW dX5_cover_174 ?_
                            refine lv_iload hx hb dX5_cover_177 (lv_at hl 6 rfl) ?_
                            refine m_zld (v := (bI ((grS (S.1 0) n (tellB (S.1 0) n (hasB (matI (mw (S.1 0))))) z).1 k))) X hW 5 (by decide) rfl k rfl (by show k < 41; omega) (show (setB (S.1 5) n (grS (S.1 0) n (tellB (S.1 0) n (hasB (matI (mw (S.1 0))))) z).1) k = (bI ((grS (S.1 0) n (tellB (S.1 0) n (hasB (matI (mw (S.1 0))))) z).1 k)) from (setB_l (by omega))) dX5_cover_179 ?_
                            refine b_ifeq (tgt := 195) X dX5_cover_180 (by decide) (fun c_180 => ?_) (fun c_180 => ?_)
                            ·
                              exact absurd (c_154.symm.trans c_180) (by decide)
                            ·
                              refine lv_iload hx hb dX5_cover_183 (lv_at hl 7 rfl) ?_
                              refine lv_iload hx hb dX5_cover_185 (lv_at hl 5 rfl) ?_
                              refine lv_icmp_le (tgt := 195) hx hb dX5_cover_187 (by decide) (fun c_187 => ?_) (fun c_187 => ?_)
                              ·
                                exact absurd c_187 c_161
                              ·
                                refine lv_iload hx hb dX5_cover_190 (lv_at hl 7 rfl) ?_
                                refine W.stk (w := (bcM (bcN (S.1 0) n (grS (S.1 0) n (tellB (S.1 0) n (hasB (matI (mw (S.1 0))))) z).1 (grS (S.1 0) n (tellB (S.1 0) n (hasB (matI (mw (S.1 0))))) z).2.1 (k + 1)))) (by rw [(bcN_t c_154 (hg c_154 ▸ lt_of_nle c_161))]; show _ = nI _; rw [hg c_154]) ?_
                                refine lv_goto (tgt := 197) hx hb dX5_cover_192 (by decide) ?_
                                refine lv_istore (lv' := [(5, .int _), (4, .int _), (0, .ref _), (1, .int _), (2, .int _), (3, .int _), (6, .int _), (7, .int _)]) hx hb dX5_cover_197 hl (by decide) rfl (fun ls hl => ?_)
                                refine lv_iinc (v := nI (k + 1)) (lv' := [(6, .int _), (5, .int _), (4, .int _), (0, .ref _), (1, .int _), (2, .int _), (3, .int _), (7, .int _)]) hx hb dX5_cover_199 hl (k := 6) rfl (nI_iinc _ 1 rfl) (by decide) rfl (fun ls hl => ?_)
                                refine lv_goto (tgt := 68) hx hb dX5_cover_202 (by decide) ?_
                                exact ih68 (k + 1) (by omega) (by omega) _ hL ls (lv_sub hl [3, 4, 5, 6, 2, 1, 0] rfl)
                      have L87 : ∀ (fuel : Nat) (v j : Nat), n - j < fuel → (v = cnt (fun j => !(grS (S.1 0) n (tellB (S.1 0) n (hasB (matI (mw (S.1 0))))) z).2.1 j && beatB (S.1 0) k j) j) → (j ≤ n) → ∀ (locs : List Loc), (∀ q ∈ locs, gLo g ≤ q.base) → ∀ (ls : Array Slot), lv_has ls 9 [(0, .ref o), (1, .int (nI q)), (2, .int (nI (cnt (tellB (S.1 0) n (hasB (matI (mw (S.1 0))))) n))), (3, .int (nI ((grS (S.1 0) n (tellB (S.1 0) n (hasB (matI (mw (S.1 0))))) z).2.2))), (4, .int (bcI (bcN (S.1 0) n (grS (S.1 0) n (tellB (S.1 0) n (hasB (matI (mw (S.1 0))))) z).1 (grS (S.1 0) n (tellB (S.1 0) n (hasB (matI (mw (S.1 0))))) z).2.1 k))), (5, .int (bcM (bcN (S.1 0) n (grS (S.1 0) n (tellB (S.1 0) n (hasB (matI (mw (S.1 0))))) z).1 (grS (S.1 0) n (tellB (S.1 0) n (hasB (matI (mw (S.1 0))))) z).2.1 k))), (6, .int (nI k)), (7, .int (nI v)), (8, .int (nI j))] → W p l e (rmL 7 0 0) s m args below meth c H locs 0 0 (MQ below (Qcg (fun r H H1 => r = some (.int (nI ((grS (S.1 0) n (tellB (S.1 0) n (hasB (matI (mw (S.1 0))))) (min (cnt (tellB (S.1 0) n (hasB (matI (mw (S.1 0))))) n) q)).2.2))) ∧ MW g o (uS (uA (uA (uA S 5 (setB (S.1 5) n (grS (S.1 0) n (tellB (S.1 0) n (hasB (matI (mw (S.1 0))))) (min (cnt (tellB (S.1 0) n (hasB (matI (mw (S.1 0))))) n) q)).1)) 6 (setB (S.1 6) n (grS (S.1 0) n (tellB (S.1 0) n (hasB (matI (mw (S.1 0))))) (min (cnt (tellB (S.1 0) n (hasB (matI (mw (S.1 0))))) n) q)).2.1)) 8 (setI (S.1 8) (min (cnt (tellB (S.1 0) n (hasB (matI (mw (S.1 0))))) n) q) (fun j => nI (gBs (S.1 0) n (tellB (S.1 0) n (hasB (matI (mw (S.1 0))))) j)))) 9 (nI (min (cnt (tellB (S.1 0) n (hasB (matI (mw (S.1 0))))) n) q))) H1 ∧ Off o H H1)) args s 0 0 (fre g)) (F0 m 87 ls []) := by
                        intro fuel
                        induction fuel with
                        | zero => intro v j hfu; exact absurd hfu (Nat.not_lt_zero _)
                        | succ fuel ih87 =>
                          intro v j hfu hv hj  locs hL ls hl
                          refine lv_iload hx hb dX5_cover_87 (lv_at hl 8 rfl) ?_
                          refine lv_aload_n hx hb dX5_cover_89 rfl (lv_at hl 0 rfl) ?_
                          refine mg_7 X rfl hW dX5_cover_90 ?_
                          refine lv_sipush (v := nI 160) hx hb dX5_cover_93 (by decide) ?_
                          refine m_ld (v := (nI n)) X hW 0 (by decide) rfl 160 rfl (by decide) (show (S.1 0) 160 = (nI n) from hN) dX5_cover_96 ?_
                          refine n_icmp_ge (tgt := 147) X dX5_cover_97 (by decide) (by omega) (by omega) (fun c_97 => ?_) (fun c_97 => ?_)
                          ·
                            exact C147 v (fun _ => by rw [hv, show j = n by omega]; rfl) _ hL ls (lv_sub hl [0, 1, 2, 3, 4, 5, 6, 7] rfl)
                          ·
                            refine lv_aload_n hx hb dX5_cover_100 rfl (lv_at hl 0 rfl) ?_
                            refine mg_25 X rfl hW dX5_cover_101 ?_
                            refine lv_iload hx hb dX5_cover_104 (lv_at hl 6 rfl) ?_
                            refine m_zld (v := (bI ((grS (S.1 0) n (tellB (S.1 0) n (hasB (matI (mw (S.1 0))))) z).1 k))) X hW 5 (by decide) rfl k rfl (by show k < 41; omega) (show (setB (S.1 5) n (grS (S.1 0) n (tellB (S.1 0) n (hasB (matI (mw (S.1 0))))) z).1) k = (bI ((grS (S.1 0) n (tellB (S.1 0) n (hasB (matI (mw (S.1 0))))) z).1 k)) from (setB_l (by omega))) dX5_cover_106 ?_
                            refine b_ifeq (tgt := 147) X dX5_cover_107 (by decide) (fun c_107 => ?_) (fun c_107 => ?_)
                            ·
                              exact C147 v (fun h => absurd (c_107.symm.trans h) (by decide)) _ hL ls (lv_sub hl [0, 1, 2, 3, 4, 5, 6, 7] rfl)
                            ·
                              refine lv_iload hx hb dX5_cover_110 (lv_at hl 7 rfl) ?_
                              refine lv_aload_n hx hb dX5_cover_112 rfl (lv_at hl 0 rfl) ?_
                              refine mg_29 X rfl hW dX5_cover_113 ?_
                              refine lv_iload hx hb dX5_cover_116 (lv_at hl 8 rfl) ?_
                              refine m_zld (v := (bI ((grS (S.1 0) n (tellB (S.1 0) n (hasB (matI (mw (S.1 0))))) z).2.1 j))) X hW 6 (by decide) rfl j rfl (by show j < 40; omega) (show (setB (S.1 6) n (grS (S.1 0) n (tellB (S.1 0) n (hasB (matI (mw (S.1 0))))) z).2.1) j = (bI ((grS (S.1 0) n (tellB (S.1 0) n (hasB (matI (mw (S.1 0))))) z).2.1 j)) from (setB_l (by omega))) dX5_cover_118 ?_
                              refine b_ifne (tgt := 137) X dX5_cover_119 (by decide) (fun c_119 => ?_) (fun c_119 => ?_)
                              ·
                                refine lv_iconst (v := nI 0) hx hb dX5_cover_137 (by decide) ?_
                                refine n_iadd X dX5_cover_138 ?_
                                refine lv_istore (lv' := [(7, .int _), (0, .ref _), (1, .int _), (2, .int _), (3, .int _), (4, .int _), (5, .int _), (6, .int _), (8, .int _)]) hx hb dX5_cover_139 hl (by decide) rfl (fun ls hl => ?_)
                                refine lv_iinc (v := nI (j + 1)) (lv' := [(8, .int _), (7, .int _), (0, .ref _), (1, .int _), (2, .int _), (3, .int _), (4, .int _), (5, .int _), (6, .int _)]) hx hb dX5_cover_141 hl (k := 8) rfl (nI_iinc _ 1 rfl) (by decide) rfl (fun ls hl => ?_)
                                refine lv_goto (tgt := 87) hx hb dX5_cover_144 (by decide) ?_
                                exact ih87 _ _ (by omega) (by first | (refine cnt_f hv ?_; simp [c_119]; done) | (refine cnt_f hv ?_; simp [c_130]; done) | (refine cnt_t hv ?_; simp [c_119, c_130]; done)) (by omega) _ hL ls (lv_sub hl [2, 3, 4, 5, 6, 7, 8, 1, 0] rfl)
                              ·
                                refine lv_aload_n hx hb dX5_cover_122 rfl (lv_at hl 0 rfl) ?_
                                refine lv_iload hx hb dX5_cover_123 (lv_at hl 6 rfl) ?_
                                refine lv_iload hx hb dX5_cover_125 (lv_at hl 8 rfl) ?_
                                refine Cp.callV (v := .int (bI (beatB (S.1 0) k j))) (ct_X5_beat l g o k j (uS (uA (uA (uA S 5 (setB (S.1 5) n (grS (S.1 0) n (tellB (S.1 0) n (hasB (matI (mw (S.1 0))))) z).1)) 6 (setB (S.1 6) n (grS (S.1 0) n (tellB (S.1 0) n (hasB (matI (mw (S.1 0))))) z).2.1)) 8 (setI (S.1 8) z (fun j => nI (gBs (S.1 0) n (tellB (S.1 0) n (hasB (matI (mw (S.1 0))))) j)))) 9 (nI z)) (by omega) (by omega)) X hL hl vb_X5_beat q2083 (hW.2.1.recv hKV rfl) rfl rfl (Nat.le_of_ble_eq_true rfl) dX5_cover_127 ⟨Nat.le_of_ble_eq_true rfl, Nat.le_of_ble_eq_true rfl⟩ (by omega) (by omega) hW (fun locs hL => ?_)
                                refine b_ifeq (tgt := 137) X dX5_cover_130 (by decide) (fun c_130 => ?_) (fun c_130 => ?_)
                                ·
                                  refine lv_iconst (v := nI 0) hx hb dX5_cover_137 (by decide) ?_
                                  refine n_iadd X dX5_cover_138 ?_
                                  refine lv_istore (lv' := [(7, .int _), (0, .ref _), (1, .int _), (2, .int _), (3, .int _), (4, .int _), (5, .int _), (6, .int _), (8, .int _)]) hx hb dX5_cover_139 hl (by decide) rfl (fun ls hl => ?_)
                                  refine lv_iinc (v := nI (j + 1)) (lv' := [(8, .int _), (7, .int _), (0, .ref _), (1, .int _), (2, .int _), (3, .int _), (4, .int _), (5, .int _), (6, .int _)]) hx hb dX5_cover_141 hl (k := 8) rfl (nI_iinc _ 1 rfl) (by decide) rfl (fun ls hl => ?_)
                                  refine lv_goto (tgt := 87) hx hb dX5_cover_144 (by decide) ?_
                                  exact ih87 _ _ (by omega) (by first | (refine cnt_f hv ?_; simp [c_119]; done) | (refine cnt_f hv ?_; simp [c_130]; done) | (refine cnt_t hv ?_; simp [c_119, c_130]; done)) (by omega) _ hL ls (lv_sub hl [2, 3, 4, 5, 6, 7, 8, 1, 0] rfl)
                                ·
                                  refine lv_iconst (v := nI 1) hx hb dX5_cover_133 (by decide) ?_
                                  refine lv_goto (tgt := 138) hx hb dX5_cover_134 (by decide) ?_
                                  refine n_iadd X dX5_cover_138 ?_
                                  refine lv_istore (lv' := [(7, .int _), (0, .ref _), (1, .int _), (2, .int _), (3, .int _), (4, .int _), (5, .int _), (6, .int _), (8, .int _)]) hx hb dX5_cover_139 hl (by decide) rfl (fun ls hl => ?_)
                                  refine lv_iinc (v := nI (j + 1)) (lv' := [(8, .int _), (7, .int _), (0, .ref _), (1, .int _), (2, .int _), (3, .int _), (4, .int _), (5, .int _), (6, .int _)]) hx hb dX5_cover_141 hl (k := 8) rfl (nI_iinc _ 1 rfl) (by decide) rfl (fun ls hl => ?_)
                                  refine lv_goto (tgt := 87) hx hb dX5_cover_144 (by decide) ?_
                                  exact ih87 _ _ (by omega) (by first | (refine cnt_f hv ?_; simp [c_119]; done) | (refine cnt_f hv ?_; simp [c_130]; done) | (refine cnt_t hv ?_; simp [c_119, c_130]; done)) (by omega) _ hL ls (lv_sub hl [2, 3, 4, 5, 6, 7, 8, 1, 0] rfl)
                      exact L87 (n + 1) 0 0 (by omega) rfl (by omega) _ hL ls (lv_sub hl [2, 3, 4, 5, 6, 7, 8, 1, 0] rfl)
                exact L68 (n + 1) 0 (by omega) (by omega) _ hL ls (lv_sub hl [3, 4, 5, 6, 2, 1, 0] rfl)
        exact L43 42 0 (by omega) (by omega) (by omega) rfl _ (MW.cast hW ⟨rfl, rfl, rfl, rfl, rfl, rfl, (by rw [show k = n by omega]; rfl), rfl, (setI_0 (S.1 8) (fun j => nI (gBs (S.1 0) n (tellB (S.1 0) n (hasB (matI (mw (S.1 0))))) j))).symm, rfl, rfl, rfl, rfl, rfl, rfl, rfl, rfl⟩) hO _ hL ls (lv_sub hl [1, 2, 3, 0] rfl)
      ·
        refine lv_aload_n hx hb dX5_cover_23 rfl (lv_at hl 0 rfl) ?_
        refine mg_29 X rfl hW dX5_cover_24 ?_
        refine lv_iload_n hx hb dX5_cover_27 rfl (lv_at hl 3 rfl) ?_
        refine lv_iconst (v := nI 0) hx hb dX5_cover_28 (by decide) ?_
        refine m_zst X hL hW 6 (by decide) rfl k rfl (by show k < 40; omega) rfl dX5_cover_29 (fun H locs hL hW hO1 => ?_)
        have hO := hO.trans hO1
        have hW := MW.cast (S1 := uA (uA S 5 (setB (S.1 5) n (tellB (S.1 0) n (hasB (matI (mw (S.1 0))))))) 6 (upd (setB (S.1 6) k (fun _ => false)) k (nI 0))) hW ⟨rfl, rfl, rfl, rfl, rfl, rfl, rfl, rfl, rfl, rfl, rfl, rfl, rfl, rfl, rfl, rfl, rfl⟩
        have hW := MW.eqA (k := 6) (f := upd (setB (S.1 6) k (fun _ => false)) k (nI 0)) (f1 := setB (S.1 6) (k + 1) (fun _ => false)) hW (setB_s _ _ _ rfl) rfl (fun h => MW.cast (S1 := uA (uA S 5 (setB (S.1 5) n (tellB (S.1 0) n (hasB (matI (mw (S.1 0))))))) 6 (setB (S.1 6) (k + 1) (fun _ => false))) h ⟨rfl, rfl, rfl, rfl, rfl, rfl, rfl, rfl, rfl, rfl, rfl, rfl, rfl, rfl, rfl, rfl, rfl⟩)
        refine lv_iinc (v := nI (k + 1)) (lv' := [(3, .int _), (0, .ref _), (1, .int _), (2, .int _)]) hx hb dX5_cover_30 hl (k := 3) rfl (nI_iinc _ 1 rfl) (by decide) rfl (fun ls hl => ?_)
        refine lv_goto (tgt := 11) hx hb dX5_cover_33 (by decide) ?_
        exact ih11 _ (by omega) (by omega) _ hW hO _ hL ls (lv_sub hl [1, 2, 3, 0] rfl)
  exact L11 (n + 1) 0 (by omega) (by omega) _ (MW.cast hW ⟨rfl, rfl, rfl, rfl, rfl, rfl, (setB_0 (S.1 6) (fun _ => false)).symm, rfl, rfl, rfl, rfl, rfl, rfl, rfl, rfl, rfl, rfl⟩) hO _ hL ls (lv_sub hl [2, 3, 1, 0] rfl)
theorem vb_X5_cover : VB yX5_cover cX5_cover 9 (some .int) 1 := ⟨q2214, qs89, q111, q2215, ⟨by decide, by decide, by decide +kernel⟩⟩
