/-! the model's walks, eighth part: layers -/
def lyI (L : Nat → Nat) (w k : Nat) : Int32 := if L k ≤ w then nI (L k) else (-1)
def pvI (L : Nat → Nat) (w k j : Nat) : Int32 := if j < k then lyI L (w + 1) j else lyI L w j
def prI (f : Nat → Int32) (n : Nat) (L : Nat → Nat) (w k : Nat) : Nat → Int32 := fun j => if j < n then pvI L w k j else f j
theorem prI_l {f : Nat → Int32} {n : Nat} {L : Nat → Nat} {w k j : Nat} (h : j < n) : prI f n L w k j = pvI L w k j := by simp [prI, h]
theorem pv_k (L : Nat → Nat) (w k : Nat) : pvI L w k k = lyI L w k := by simp [pvI]
theorem ly_m1 {L : Nat → Nat} {w k : Nat} (h : L k ≤ 400) : lyI L w k = (-1) ↔ w < L k := by
  unfold lyI
  split
  · exact ⟨fun e => absurd e (nI_m1 (by omega)), fun e => by omega⟩
  · exact ⟨fun _ => by omega, fun _ => rfl⟩
theorem ly_w {L : Nat → Nat} {w k z : Nat} (h : L k ≤ 400) (hz : z ≤ 401) : lyI L w k = nI z ↔ L k ≤ w ∧ L k = z := by
  unfold lyI
  split
  · rw [nI_eq (by omega) (by omega)]; omega
  · exact ⟨fun e => absurd e.symm (nI_m1 (by omega)), fun e => by omega⟩
theorem pv_c {L : Nat → Nat} {w k j : Nat} (h : L j ≤ 400) (hw : w ≤ 400) : (¬ pvI L w k j = (-1) ∧ ¬ pvI L w k j = nI (w + 1)) ↔ L j ≤ w := by
  unfold pvI
  split
  · rw [ly_m1 h, ly_w h (by omega)]; omega
  · rw [ly_m1 h, ly_w h (by omega)]; omega
theorem prI_s {f : Nat → Int32} {n : Nat} {L : Nat → Nat} {w k : Nat} (hk : k < n) (h : L k = w + 1) : upd (prI f n L w k) k (nI (w + 1)) = prI f n L w (k + 1) := by
  funext j
  by_cases q : j = k
  · subst q; simp [upd, prI, pvI, lyI, hk, h]
  · have : (j < k + 1) = (j < k) := by simp; omega
    simp [upd, prI, pvI, q, this]
theorem prI_t {f : Nat → Int32} {n : Nat} {L : Nat → Nat} {w k : Nat} (h : ¬ L k = w + 1) : prI f n L w k = prI f n L w (k + 1) := by
  funext j
  by_cases q : j = k
  · subst q
    have : (L j ≤ w + 1) = (L j ≤ w) := by simp; omega
    simp [prI, pvI, lyI, this]
  · have : (j < k + 1) = (j < k) := by simp; omega
    simp [prI, pvI, this]
theorem prI_n (f : Nat → Int32) (n : Nat) (L : Nat → Nat) (w : Nat) : prI f n L w n = prI f n L (w + 1) 0 := by
  funext j
  unfold prI
  split
  · rename_i h; simp [pvI, h]
  · rfl
theorem pr_init {r f : Nat → Int32} {n : Nat} (h : RO r n) : setI f n (fun k => if cB r k then (-1) else nI 0) = prI f n (LY r n) 0 0 := by
  funext j
  unfold setI prI
  split
  · rename_i hj
    have e := LY_0 h hj
    by_cases q : cB r j = true
    · have : ¬ LY r n j = 0 := fun x => by rw [e.mp x] at q; cases q
      simp [pvI, lyI, q, this]
    · have : LY r n j = 0 := e.mpr (by simpa using q)
      simp [pvI, lyI, q, this]
  · rfl
theorem pr_end {f : Nat → Int32} {n w : Nat} {L : Nat → Nat} (h : ∀ k, k < n → L k ≤ w) : prI f n L w 0 = setI f n (fun k => nI (L k)) := by
  funext j
  unfold setI prI
  split
  · rename_i hj; simp [pvI, lyI, h j hj]
  · rfl
theorem cnt_mono {p q : Nat → Bool} (h : ∀ j, p j = true → q j = true) : ∀ {k n : Nat}, k ≤ n → cnt p k ≤ cnt q n
  | k, 0, e => by have : k = 0 := by omega
                  subst this; exact Nat.le_refl _
  | k, n + 1, e => by
    rcases Nat.lt_or_ge k (n + 1) with x | x
    · have := cnt_mono h (k := k) (n := n) (by omega)
      show cnt p k ≤ cnt q n + (if q n then 1 else 0)
      split <;> omega
    · have : k = n + 1 := by omega
      subst this
      have := cnt_mono h (k := n) (n := n) (Nat.le_refl _)
      show cnt p n + (if p n then 1 else 0) ≤ cnt q n + (if q n then 1 else 0)
      by_cases y : p n = true
      · simp [y, h n y, this]
      · simp [y]; omega
theorem cnt_split (L : Nat → Nat) (w : Nat) : ∀ n, cnt (fun j => decide (w < L j)) n = cnt (fun j => decide (w + 1 < L j)) n + cnt (fun j => decide (L j = w + 1)) n
  | 0 => rfl
  | n + 1 => by
    unfold cnt
    rw [cnt_split L w n]
    rcases Nat.lt_trichotomy (L n) (w + 1) with x | x | x
    · have : ¬ w < L n ∧ ¬ w + 1 < L n ∧ ¬ L n = w + 1 := by omega
      simp [this.1, this.2.1, this.2.2]
    · have : w < L n ∧ ¬ w + 1 < L n := by omega
      simp [this.1, this.2, x]; omega
    · have : w < L n ∧ ¬ L n = w + 1 := by omega
      simp [this.1, this.2, x]; omega
theorem nI_dec {y : Nat} (h : 0 < y) : nI y + Int32.ofInt (-1) = nI (y - 1) := by
  have e := pk_sub (a := y) (b := 1) h
  rw [← e, Int32.sub_eq_add_neg]; rfl
theorem peel_max {L : Nat → Nat} {n w : Nat} (h : ∀ k, k < n → L k ≤ w) (hz : w = 0 ∨ ∃ k, k < n ∧ w ≤ L k) : w = maxN L n := by
  have h1 := maxN_le h
  rcases hz with rfl | ⟨k, hk, hl⟩
  · omega
  · have := maxN_ge (f := L) hk; omega

set_option maxRecDepth 100000 in
set_option maxHeartbeats 4000000 in
theorem ct_X5_peel (l : Launch) (g : GT) (o n : Nat) (S : MS) (hN : S.1 0 160 = nI n) (hn : n ≤ 40) (hR : RO (S.1 0) n) : Ct l g yX5_peel cX5_peel 6 (some .int) 6 0 0 [.ref o] (MW g o S) (fun r H H1 => r = some (.int (nI (maxN (LY (S.1 0) n) n))) ∧ MW g o (uA S 7 (setI (S.1 7) n (fun k => nI (LY (S.1 0) n k)))) H1 ∧ Off o H H1) := by
  refine Ct.of (by decide) (Nat.le_of_ble_eq_true rfl) ?_
  intro p e s m args below meth c X hP ls hl
  have hx := X.1
  have hb := X.2.1
  have hKV := X.2.2.2.2.2.2.2.1.1
  have hL : ∀ q ∈ ([] : List Loc), gLo g ≤ q.base := fun _ h => by cases h
  have hl : lv_has ls 6 [(0, .ref o)] := hl
  have hW : MW g o S s.heap := hP
  have hO : Off o s.heap s.heap := Off.rfl'
  refine lv_iconst (v := nI 0) hx hb dX5_peel_0 (by decide) ?_
  refine lv_istore_n (lv' := [(1, .int _), (0, .ref _)]) hx hb dX5_peel_1 rfl hl (by decide) rfl (fun ls hl => ?_)
  refine lv_iconst (v := nI 0) hx hb dX5_peel_2 (by decide) ?_
  refine lv_istore_n (lv' := [(2, .int _), (1, .int _), (0, .ref _)]) hx hb dX5_peel_3 rfl hl (by decide) rfl (fun ls hl => ?_)
  have L4 : ∀ (fuel : Nat) (v k : Nat), n - k < fuel → (v = cnt (cB (S.1 0)) k) → (k ≤ n) → ∀ (H : Heap), MW g o (uA S 7 (setI (S.1 7) k (fun k => if cB (S.1 0) k then (-1) else nI 0))) H → Off o s.heap H → ∀ (locs : List Loc), (∀ q ∈ locs, gLo g ≤ q.base) → ∀ (ls : Array Slot), lv_has ls 6 [(0, .ref o), (1, .int (nI v)), (2, .int (nI k))] → W p l e (rmL 6 0 0) s m args below meth c H locs 0 0 (MQ below (Qcg (fun r H H1 => r = some (.int (nI (maxN (LY (S.1 0) n) n))) ∧ MW g o (uA S 7 (setI (S.1 7) n (fun k => nI (LY (S.1 0) n k)))) H1 ∧ Off o H H1)) args s 0 0 (fre g)) (F0 m 4 ls []) := by
    intro fuel
    induction fuel with
    | zero => intro v k hfu; exact absurd hfu (Nat.not_lt_zero _)
    | succ fuel ih4 =>
      intro v k hfu hv hk H hW hO locs hL ls hl
      refine lv_iload_n hx hb dX5_peel_4 rfl (lv_at hl 2 rfl) ?_
      refine lv_aload_n hx hb dX5_peel_5 rfl (lv_at hl 0 rfl) ?_
      refine mg_7 X rfl hW dX5_peel_6 ?_
      refine lv_sipush (v := nI 160) hx hb dX5_peel_9 (by decide) ?_
      refine m_ld (v := (nI n)) X hW 0 (by decide) rfl 160 rfl (by decide) (show (S.1 0) 160 = (nI n) from hN) dX5_peel_12 ?_
      refine n_icmp_ge (tgt := 57) X dX5_peel_13 (by decide) (by omega) (by omega) (fun c_13 => ?_) (fun c_13 => ?_)
      ·
        refine lv_iconst (v := nI 0) hx hb dX5_peel_57 (by decide) ?_
        refine lv_istore_n (lv' := [(2, .int _), (0, .ref _), (1, .int _)]) hx hb dX5_peel_58 rfl hl (by decide) rfl (fun ls hl => ?_)
        have L59 : ∀ (fuel : Nat) (x w : Nat), 401 - w < fuel → (x = cnt (fun k => decide (w < LY (S.1 0) n k)) n) → (w ≤ 400) → (w = 0 ∨ ∃ k, k < n ∧ w ≤ LY (S.1 0) n k) → ∀ (H : Heap), MW g o (uA S 7 (prI (S.1 7) n (LY (S.1 0) n) w 0)) H → Off o s.heap H → ∀ (locs : List Loc), (∀ q ∈ locs, gLo g ≤ q.base) → ∀ (ls : Array Slot), lv_has ls 6 [(0, .ref o), (1, .int (nI x)), (2, .int (nI w))] → W p l e (rmL 6 0 0) s m args below meth c H locs 0 0 (MQ below (Qcg (fun r H H1 => r = some (.int (nI (maxN (LY (S.1 0) n) n))) ∧ MW g o (uA S 7 (setI (S.1 7) n (fun k => nI (LY (S.1 0) n k)))) H1 ∧ Off o H H1)) args s 0 0 (fre g)) (F0 m 59 ls []) := by
          intro fuel
          induction fuel with
          | zero => intro x w hfu; exact absurd hfu (Nat.not_lt_zero _)
          | succ fuel ih59 =>
            intro x w hfu hx1 hw hz H hW hO locs hL ls hl
            have hxb : x ≤ n := by rw [hx1]; exact cnt_le _ _
            refine lv_iload_n hx hb dX5_peel_59 rfl (lv_at hl 1 rfl) ?_
            refine n_ifle (tgt := 187) X dX5_peel_60 (by decide) (by omega) (fun c_60 => ?_) (fun c_60 => ?_)
            ·
              refine lv_iload_n hx hb dX5_peel_187 rfl (lv_at hl 2 rfl) ?_
              have hall : ∀ k, k < n → LY (S.1 0) n k ≤ w := fun k hk => by have := cnt_0 (hx1.symm.trans c_60) k hk; simp at this; omega
              exact r_iret X hL rfl rfl dX5_peel_188 (by omega) (by omega) ⟨(by rw [← peel_max hall hz]), (MW.cast hW ⟨rfl, rfl, rfl, rfl, rfl, rfl, rfl, (pr_end hall), rfl, rfl, rfl, rfl, rfl, rfl, rfl, rfl, rfl⟩), hO⟩
            ·
              obtain ⟨z, hzn, hzl⟩ := cnt_pos (hx1 ▸ c_60)
              have hzl : w < LY (S.1 0) n z := by simpa using hzl
              have hz4 := LY_le (S.1 0) n z
              refine lv_iinc (v := nI (w + 1)) (lv' := [(2, .int _), (0, .ref _), (1, .int _)]) hx hb dX5_peel_63 hl (k := 2) rfl (nI_iinc _ 1 rfl) (by decide) rfl (fun ls hl => ?_)
              refine lv_iconst (v := nI 0) hx hb dX5_peel_66 (by decide) ?_
              refine lv_istore_n (lv' := [(3, .int _), (2, .int _), (0, .ref _), (1, .int _)]) hx hb dX5_peel_67 rfl hl (by decide) rfl (fun ls hl => ?_)
              have L68 : ∀ (fuel : Nat) (y k : Nat), n - k < fuel → (y + cnt (fun j => decide (LY (S.1 0) n j = w + 1)) k = x) → (k ≤ n) → ∀ (H : Heap), MW g o (uA S 7 (prI (S.1 7) n (LY (S.1 0) n) w k)) H → Off o s.heap H → ∀ (locs : List Loc), (∀ q ∈ locs, gLo g ≤ q.base) → ∀ (ls : Array Slot), lv_has ls 6 [(0, .ref o), (1, .int (nI y)), (2, .int (nI (w + 1))), (3, .int (nI k))] → W p l e (rmL 6 0 0) s m args below meth c H locs 0 0 (MQ below (Qcg (fun r H H1 => r = some (.int (nI (maxN (LY (S.1 0) n) n))) ∧ MW g o (uA S 7 (setI (S.1 7) n (fun k => nI (LY (S.1 0) n k)))) H1 ∧ Off o H H1)) args s 0 0 (fre g)) (F0 m 68 ls []) := by
                intro fuel
                induction fuel with
                | zero => intro y k hfu; exact absurd hfu (Nat.not_lt_zero _)
                | succ fuel ih68 =>
                  intro y k hfu hy hk H hW hO locs hL ls hl
                  refine lv_iload_n hx hb dX5_peel_68 rfl (lv_at hl 3 rfl) ?_
                  refine lv_aload_n hx hb dX5_peel_69 rfl (lv_at hl 0 rfl) ?_
                  refine mg_7 X rfl hW dX5_peel_70 ?_
                  refine lv_sipush (v := nI 160) hx hb dX5_peel_73 (by decide) ?_
                  refine m_ld (v := (nI n)) X hW 0 (by decide) rfl 160 rfl (by decide) (show (S.1 0) 160 = (nI n) from hN) dX5_peel_76 ?_
                  refine n_icmp_ge (tgt := 184) X dX5_peel_77 (by decide) (by omega) (by omega) (fun c_77 => ?_) (fun c_77 => ?_)
                  ·
                    refine lv_goto (tgt := 59) hx hb dX5_peel_184 (by decide) ?_
                    exact ih59 y (w + 1) (by omega) (by have e : k = n := (by omega); subst e; have := cnt_split (LY (S.1 0) k) w k; omega) (by omega) (Or.inr ⟨z, hzn, hzl⟩) _ (MW.cast hW ⟨rfl, rfl, rfl, rfl, rfl, rfl, rfl, (by rw [show k = n by omega]; exact prI_n _ _ _ _), rfl, rfl, rfl, rfl, rfl, rfl, rfl, rfl, rfl⟩) hO _ hL ls (lv_sub hl [0, 1, 2] rfl)
                  ·
                    refine lv_aload_n hx hb dX5_peel_80 rfl (lv_at hl 0 rfl) ?_
                    refine mg_32 X rfl hW dX5_peel_81 ?_
                    refine lv_iload_n hx hb dX5_peel_84 rfl (lv_at hl 3 rfl) ?_
                    refine m_ld (v := (lyI (LY (S.1 0) n) w k)) X hW 7 (by decide) rfl k rfl (by show k < 40; omega) (show (prI (S.1 7) n (LY (S.1 0) n) w k) k = (lyI (LY (S.1 0) n) w k) from ((prI_l (by omega)).trans (pv_k _ _ _))) dX5_peel_85 ?_
                    refine lv_iconst (v := (-1)) hx hb dX5_peel_86 (by decide) ?_
                    refine lv_icmp_ne (tgt := 94) hx hb dX5_peel_87 (by decide) (fun c_87 => ?_) (fun c_87 => ?_)
                    ·
                      refine lv_iconst (v := nI 0) hx hb dX5_peel_94 (by decide) ?_
                      refine lv_istore (lv' := [(4, .int _), (0, .ref _), (1, .int _), (2, .int _), (3, .int _)]) hx hb dX5_peel_95 hl (by decide) rfl (fun ls hl => ?_)
                      refine lv_iconst (v := nI 0) hx hb dX5_peel_97 (by decide) ?_
                      refine lv_istore (lv' := [(5, .int _), (4, .int _), (0, .ref _), (1, .int _), (2, .int _), (3, .int _)]) hx hb dX5_peel_98 hl (by decide) rfl (fun ls hl => ?_)
                      have C163 : ∀ (b : Bool), (b = decide (LY (S.1 0) n k = w + 1)) → ∀ (locs : List Loc), (∀ q ∈ locs, gLo g ≤ q.base) → ∀ (ls : Array Slot), lv_has ls 6 [(0, .ref o), (1, .int (nI y)), (2, .int (nI (w + 1))), (3, .int (nI k)), (4, .int (bI b))] → W p l e (rmL 6 0 0) s m args below meth c H locs 0 0 (MQ below (Qcg (fun r H H1 => r = some (.int (nI (maxN (LY (S.1 0) n) n))) ∧ MW g o (uA S 7 (setI (S.1 7) n (fun k => nI (LY (S.1 0) n k)))) H1 ∧ Off o H H1)) args s 0 0 (fre g)) (F0 m 163 ls []) := by
                        intro b hb3  locs hL ls hl
                        refine lv_iload hx hb dX5_peel_163 (lv_at hl 4 rfl) ?_
                        subst hb3
                        refine b_ifeq (tgt := 178) X dX5_peel_165 (by decide) (fun c_165 => ?_) (fun c_165 => ?_)
                        ·
                          refine lv_iinc (v := nI (k + 1)) (lv' := [(3, .int _), (0, .ref _), (1, .int _), (2, .int _), (4, .int _)]) hx hb dX5_peel_178 hl (k := 3) rfl (nI_iinc _ 1 rfl) (by decide) rfl (fun ls hl => ?_)
                          refine lv_goto (tgt := 68) hx hb dX5_peel_181 (by decide) ?_
                          exact ih68 y (k + 1) (by omega) (by have := cnt_f (p := fun j => decide (LY (S.1 0) n j = w + 1)) (k := k) rfl c_165; omega) (by omega) _ (MW.cast hW ⟨rfl, rfl, rfl, rfl, rfl, rfl, rfl, (prI_t (of_decide_eq_false c_165)), rfl, rfl, rfl, rfl, rfl, rfl, rfl, rfl, rfl⟩) hO _ hL ls (lv_sub hl [1, 2, 3, 0] rfl)
                        ·
                          have hLk := of_decide_eq_true c_165
                          have hcm := cnt_mono (p := fun j => decide (LY (S.1 0) n j = w + 1)) (q := fun j => decide (w < LY (S.1 0) n j)) (fun j hj => by simp at hj ⊢; omega) (k := k + 1) (n := n) (by omega)
                          have hct := cnt_t (p := fun j => decide (LY (S.1 0) n j = w + 1)) (k := k) rfl c_165
                          refine lv_aload_n hx hb dX5_peel_168 rfl (lv_at hl 0 rfl) ?_
                          refine mg_32 X rfl hW dX5_peel_169 ?_
                          refine lv_iload_n hx hb dX5_peel_172 rfl (lv_at hl 3 rfl) ?_
                          refine lv_iload_n hx hb dX5_peel_173 rfl (lv_at hl 2 rfl) ?_
                          refine m_st X hL hW 7 (by decide) rfl k rfl (by show k < 40; omega) dX5_peel_174 (fun H locs hL hW hO1 => ?_)
                          have hO := hO.trans hO1
                          have hW := MW.cast (S1 := uA S 7 (upd (prI (S.1 7) n (LY (S.1 0) n) w k) k (nI (w + 1)))) hW ⟨rfl, rfl, rfl, rfl, rfl, rfl, rfl, rfl, rfl, rfl, rfl, rfl, rfl, rfl, rfl, rfl, rfl⟩
                          have hW := MW.eqA (k := 7) (f := upd (prI (S.1 7) n (LY (S.1 0) n) w k) k (nI (w + 1))) (f1 := prI (S.1 7) n (LY (S.1 0) n) w (k + 1)) hW (prI_s (by omega) hLk) rfl (fun h => MW.cast (S1 := uA S 7 (prI (S.1 7) n (LY (S.1 0) n) w (k + 1))) h ⟨rfl, rfl, rfl, rfl, rfl, rfl, rfl, rfl, rfl, rfl, rfl, rfl, rfl, rfl, rfl, rfl, rfl⟩)
                          refine lv_iinc (v := (nI (y - 1))) (lv' := [(1, .int _), (0, .ref _), (2, .int _), (3, .int _), (4, .int _)]) hx hb dX5_peel_175 hl (k := 1) rfl (nI_dec (by omega)) (by decide) rfl (fun ls hl => ?_)
                          refine lv_iinc (v := nI (k + 1)) (lv' := [(3, .int _), (1, .int _), (0, .ref _), (2, .int _), (4, .int _)]) hx hb dX5_peel_178 hl (k := 3) rfl (nI_iinc _ 1 rfl) (by decide) rfl (fun ls hl => ?_)
                          refine lv_goto (tgt := 68) hx hb dX5_peel_181 (by decide) ?_
                          exact ih68 (y - 1) (k + 1) (by omega) (by have := cnt_t (p := fun j => decide (LY (S.1 0) n j = w + 1)) (k := k) rfl c_165; omega) (by omega) _ hW hO _ hL ls (lv_sub hl [2, 1, 3, 0] rfl)
                      have L100 : ∀ (fuel : Nat) (b : Bool) (j : Nat), n - j < fuel → (b = (decide (w < LY (S.1 0) n k) && allB (fun j => decide (LY (S.1 0) n j ≤ w) || !beatB (S.1 0) j k) j)) → (j ≤ n) → ∀ (locs : List Loc), (∀ q ∈ locs, gLo g ≤ q.base) → ∀ (ls : Array Slot), lv_has ls 6 [(0, .ref o), (1, .int (nI y)), (2, .int (nI (w + 1))), (3, .int (nI k)), (4, .int (bI b)), (5, .int (nI j))] → W p l e (rmL 6 0 0) s m args below meth c H locs 0 0 (MQ below (Qcg (fun r H H1 => r = some (.int (nI (maxN (LY (S.1 0) n) n))) ∧ MW g o (uA S 7 (setI (S.1 7) n (fun k => nI (LY (S.1 0) n k)))) H1 ∧ Off o H H1)) args s 0 0 (fre g)) (F0 m 100 ls []) := by
                        intro fuel
                        induction fuel with
                        | zero => intro b j hfu; exact absurd hfu (Nat.not_lt_zero _)
                        | succ fuel ih100 =>
                          intro b j hfu hb2 hj  locs hL ls hl
                          refine lv_iload hx hb dX5_peel_100 (lv_at hl 5 rfl) ?_
                          refine lv_aload_n hx hb dX5_peel_102 rfl (lv_at hl 0 rfl) ?_
                          refine mg_7 X rfl hW dX5_peel_103 ?_
                          refine lv_sipush (v := nI 160) hx hb dX5_peel_106 (by decide) ?_
                          refine m_ld (v := (nI n)) X hW 0 (by decide) rfl 160 rfl (by decide) (show (S.1 0) 160 = (nI n) from hN) dX5_peel_109 ?_
                          refine n_icmp_ge (tgt := 163) X dX5_peel_110 (by decide) (by omega) (by omega) (fun c_110 => ?_) (fun c_110 => ?_)
                          ·
                            exact C163 b (by rw [hb2, show j = n by omega]; exact LY_is hR (by omega)) _ hL ls (lv_sub hl [0, 1, 2, 3, 4] rfl)
                          ·
                            refine lv_iload hx hb dX5_peel_113 (lv_at hl 4 rfl) ?_
                            refine b_ifeq (tgt := 163) X dX5_peel_115 (by decide) (fun c_115 => ?_) (fun c_115 => ?_)
                            ·
                              exact C163 b (by rw [c_115, ← LY_is hR (by omega)]; exact (andB_f (hb2.symm.trans c_115) hj).symm) _ hL ls (lv_sub hl [0, 1, 2, 3, 4] rfl)
                            ·
                              refine lv_aload_n hx hb dX5_peel_118 rfl (lv_at hl 0 rfl) ?_
                              refine mg_32 X rfl hW dX5_peel_119 ?_
                              refine lv_iload hx hb dX5_peel_122 (lv_at hl 5 rfl) ?_
                              refine m_ld (v := (pvI (LY (S.1 0) n) w k j)) X hW 7 (by decide) rfl j rfl (by show j < 40; omega) (show (prI (S.1 7) n (LY (S.1 0) n) w k) j = (pvI (LY (S.1 0) n) w k j) from (prI_l (by omega))) dX5_peel_124 ?_
                              refine lv_iconst (v := (-1)) hx hb dX5_peel_125 (by decide) ?_
                              refine lv_icmp_eq (tgt := 140) hx hb dX5_peel_126 (by decide) (fun c_126 => ?_) (fun c_126 => ?_)
                              ·
                                refine lv_aload_n hx hb dX5_peel_140 rfl (lv_at hl 0 rfl) ?_
                                refine lv_iload hx hb dX5_peel_141 (lv_at hl 5 rfl) ?_
                                refine lv_iload_n hx hb dX5_peel_143 rfl (lv_at hl 3 rfl) ?_
                                refine Cp.callV (v := .int (bI (beatB (S.1 0) j k))) (ct_X5_beat l g o j k (uA S 7 (prI (S.1 7) n (LY (S.1 0) n) w k)) (by omega) (by omega)) X hL hl vb_X5_beat q2083 (hW.2.1.recv hKV rfl) rfl rfl (Nat.le_of_ble_eq_true rfl) dX5_peel_144 ⟨Nat.le_of_ble_eq_true rfl, Nat.le_of_ble_eq_true rfl⟩ (by omega) (by omega) hW (fun locs hL => ?_)
                                refine b_ifne (tgt := 154) X dX5_peel_147 (by decide) (fun c_147 => ?_) (fun c_147 => ?_)
                                ·
                                  refine lv_iconst (v := nI 0) hx hb dX5_peel_154 (by decide) ?_
                                  refine lv_istore (lv' := [(4, .int _), (0, .ref _), (1, .int _), (2, .int _), (3, .int _), (5, .int _)]) hx hb dX5_peel_155 hl (by decide) rfl (fun ls hl => ?_)
                                  refine lv_iinc (v := nI (j + 1)) (lv' := [(5, .int _), (4, .int _), (0, .ref _), (1, .int _), (2, .int _), (3, .int _)]) hx hb dX5_peel_157 hl (k := 5) rfl (nI_iinc _ 1 rfl) (by decide) rfl (fun ls hl => ?_)
                                  refine lv_goto (tgt := 100) hx hb dX5_peel_160 (by decide) ?_
                                  exact ih100 false (j + 1) (by omega) (by rw [hb2] at c_115; rw [allB_1, ← Bool.and_assoc, c_115]; rw [c_147, decide_eq_false (fun x => ((pv_c (k := k) (LY_le (S.1 0) n j) (by omega)).mpr x).1 c_126)]; rfl) (by omega) _ hL ls (lv_sub hl [2, 3, 4, 5, 1, 0] rfl)
                                ·
                                  refine lv_iconst (v := nI 1) hx hb dX5_peel_150 (by decide) ?_
                                  refine lv_goto (tgt := 155) hx hb dX5_peel_151 (by decide) ?_
                                  refine lv_istore (lv' := [(4, .int _), (0, .ref _), (1, .int _), (2, .int _), (3, .int _), (5, .int _)]) hx hb dX5_peel_155 hl (by decide) rfl (fun ls hl => ?_)
                                  refine lv_iinc (v := nI (j + 1)) (lv' := [(5, .int _), (4, .int _), (0, .ref _), (1, .int _), (2, .int _), (3, .int _)]) hx hb dX5_peel_157 hl (k := 5) rfl (nI_iinc _ 1 rfl) (by decide) rfl (fun ls hl => ?_)
                                  refine lv_goto (tgt := 100) hx hb dX5_peel_160 (by decide) ?_
                                  exact ih100 true (j + 1) (by omega) (by rw [hb2] at c_115; rw [allB_1, ← Bool.and_assoc, c_115]; simp [c_147]) (by omega) _ hL ls (lv_sub hl [2, 3, 4, 5, 1, 0] rfl)
                              ·
                                refine lv_aload_n hx hb dX5_peel_129 rfl (lv_at hl 0 rfl) ?_
                                refine mg_32 X rfl hW dX5_peel_130 ?_
                                refine lv_iload hx hb dX5_peel_133 (lv_at hl 5 rfl) ?_
                                refine m_ld (v := (pvI (LY (S.1 0) n) w k j)) X hW 7 (by decide) rfl j rfl (by show j < 40; omega) (show (prI (S.1 7) n (LY (S.1 0) n) w k) j = (pvI (LY (S.1 0) n) w k j) from (prI_l (by omega))) dX5_peel_135 ?_
                                refine lv_iload_n hx hb dX5_peel_136 rfl (lv_at hl 2 rfl) ?_
                                refine lv_icmp_ne (tgt := 150) hx hb dX5_peel_137 (by decide) (fun c_137 => ?_) (fun c_137 => ?_)
                                ·
                                  refine lv_iconst (v := nI 1) hx hb dX5_peel_150 (by decide) ?_
                                  refine lv_goto (tgt := 155) hx hb dX5_peel_151 (by decide) ?_
                                  refine lv_istore (lv' := [(4, .int _), (0, .ref _), (1, .int _), (2, .int _), (3, .int _), (5, .int _)]) hx hb dX5_peel_155 hl (by decide) rfl (fun ls hl => ?_)
                                  refine lv_iinc (v := nI (j + 1)) (lv' := [(5, .int _), (4, .int _), (0, .ref _), (1, .int _), (2, .int _), (3, .int _)]) hx hb dX5_peel_157 hl (k := 5) rfl (nI_iinc _ 1 rfl) (by decide) rfl (fun ls hl => ?_)
                                  refine lv_goto (tgt := 100) hx hb dX5_peel_160 (by decide) ?_
                                  exact ih100 true (j + 1) (by omega) (by rw [hb2] at c_115; rw [allB_1, ← Bool.and_assoc, c_115]; simp [(pv_c (k := k) (LY_le (S.1 0) n j) (by omega)).mp ⟨c_126, c_137⟩]) (by omega) _ hL ls (lv_sub hl [2, 3, 4, 5, 1, 0] rfl)
                                ·
                                  refine lv_aload_n hx hb dX5_peel_140 rfl (lv_at hl 0 rfl) ?_
                                  refine lv_iload hx hb dX5_peel_141 (lv_at hl 5 rfl) ?_
                                  refine lv_iload_n hx hb dX5_peel_143 rfl (lv_at hl 3 rfl) ?_
                                  refine Cp.callV (v := .int (bI (beatB (S.1 0) j k))) (ct_X5_beat l g o j k (uA S 7 (prI (S.1 7) n (LY (S.1 0) n) w k)) (by omega) (by omega)) X hL hl vb_X5_beat q2083 (hW.2.1.recv hKV rfl) rfl rfl (Nat.le_of_ble_eq_true rfl) dX5_peel_144 ⟨Nat.le_of_ble_eq_true rfl, Nat.le_of_ble_eq_true rfl⟩ (by omega) (by omega) hW (fun locs hL => ?_)
                                  refine b_ifne (tgt := 154) X dX5_peel_147 (by decide) (fun c_147 => ?_) (fun c_147 => ?_)
                                  ·
                                    refine lv_iconst (v := nI 0) hx hb dX5_peel_154 (by decide) ?_
                                    refine lv_istore (lv' := [(4, .int _), (0, .ref _), (1, .int _), (2, .int _), (3, .int _), (5, .int _)]) hx hb dX5_peel_155 hl (by decide) rfl (fun ls hl => ?_)
                                    refine lv_iinc (v := nI (j + 1)) (lv' := [(5, .int _), (4, .int _), (0, .ref _), (1, .int _), (2, .int _), (3, .int _)]) hx hb dX5_peel_157 hl (k := 5) rfl (nI_iinc _ 1 rfl) (by decide) rfl (fun ls hl => ?_)
                                    refine lv_goto (tgt := 100) hx hb dX5_peel_160 (by decide) ?_
                                    exact ih100 false (j + 1) (by omega) (by rw [hb2] at c_115; rw [allB_1, ← Bool.and_assoc, c_115]; rw [c_147, decide_eq_false (fun x => ((pv_c (k := k) (LY_le (S.1 0) n j) (by omega)).mpr x).2 c_137)]; rfl) (by omega) _ hL ls (lv_sub hl [2, 3, 4, 5, 1, 0] rfl)
                                  ·
                                    refine lv_iconst (v := nI 1) hx hb dX5_peel_150 (by decide) ?_
                                    refine lv_goto (tgt := 155) hx hb dX5_peel_151 (by decide) ?_
                                    refine lv_istore (lv' := [(4, .int _), (0, .ref _), (1, .int _), (2, .int _), (3, .int _), (5, .int _)]) hx hb dX5_peel_155 hl (by decide) rfl (fun ls hl => ?_)
                                    refine lv_iinc (v := nI (j + 1)) (lv' := [(5, .int _), (4, .int _), (0, .ref _), (1, .int _), (2, .int _), (3, .int _)]) hx hb dX5_peel_157 hl (k := 5) rfl (nI_iinc _ 1 rfl) (by decide) rfl (fun ls hl => ?_)
                                    refine lv_goto (tgt := 100) hx hb dX5_peel_160 (by decide) ?_
                                    exact ih100 true (j + 1) (by omega) (by rw [hb2] at c_115; rw [allB_1, ← Bool.and_assoc, c_115]; simp [c_147]) (by omega) _ hL ls (lv_sub hl [2, 3, 4, 5, 1, 0] rfl)
                      exact L100 (n + 1) false 0 (by omega) (by rw [allB_0, Bool.and_true]; exact (decide_eq_false (mt (ly_m1 (LY_le (S.1 0) n k)).mpr c_87)).symm) (by omega) _ hL ls (lv_sub hl [2, 3, 4, 5, 1, 0] rfl)
                    ·
                      refine lv_iconst (v := nI 1) hx hb dX5_peel_90 (by decide) ?_
                      refine lv_goto (tgt := 95) hx hb dX5_peel_91 (by decide) ?_
                      refine lv_istore (lv' := [(4, .int _), (0, .ref _), (1, .int _), (2, .int _), (3, .int _)]) hx hb dX5_peel_95 hl (by decide) rfl (fun ls hl => ?_)
                      refine lv_iconst (v := nI 0) hx hb dX5_peel_97 (by decide) ?_
                      refine lv_istore (lv' := [(5, .int _), (4, .int _), (0, .ref _), (1, .int _), (2, .int _), (3, .int _)]) hx hb dX5_peel_98 hl (by decide) rfl (fun ls hl => ?_)
                      have C163 : ∀ (b : Bool), (b = decide (LY (S.1 0) n k = w + 1)) → ∀ (locs : List Loc), (∀ q ∈ locs, gLo g ≤ q.base) → ∀ (ls : Array Slot), lv_has ls 6 [(0, .ref o), (1, .int (nI y)), (2, .int (nI (w + 1))), (3, .int (nI k)), (4, .int (bI b))] → W p l e (rmL 6 0 0) s m args below meth c H locs 0 0 (MQ below (Qcg (fun r H H1 => r = some (.int (nI (maxN (LY (S.1 0) n) n))) ∧ MW g o (uA S 7 (setI (S.1 7) n (fun k => nI (LY (S.1 0) n k)))) H1 ∧ Off o H H1)) args s 0 0 (fre g)) (F0 m 163 ls []) := by
                        intro b hb3  locs hL ls hl
                        refine lv_iload hx hb dX5_peel_163 (lv_at hl 4 rfl) ?_
                        subst hb3
                        refine b_ifeq (tgt := 178) X dX5_peel_165 (by decide) (fun c_165 => ?_) (fun c_165 => ?_)
                        ·
                          refine lv_iinc (v := nI (k + 1)) (lv' := [(3, .int _), (0, .ref _), (1, .int _), (2, .int _), (4, .int _)]) hx hb dX5_peel_178 hl (k := 3) rfl (nI_iinc _ 1 rfl) (by decide) rfl (fun ls hl => ?_)
                          refine lv_goto (tgt := 68) hx hb dX5_peel_181 (by decide) ?_
                          exact ih68 y (k + 1) (by omega) (by have := cnt_f (p := fun j => decide (LY (S.1 0) n j = w + 1)) (k := k) rfl c_165; omega) (by omega) _ (MW.cast hW ⟨rfl, rfl, rfl, rfl, rfl, rfl, rfl, (prI_t (of_decide_eq_false c_165)), rfl, rfl, rfl, rfl, rfl, rfl, rfl, rfl, rfl⟩) hO _ hL ls (lv_sub hl [1, 2, 3, 0] rfl)
                        ·
                          have hLk := of_decide_eq_true c_165
                          have hcm := cnt_mono (p := fun j => decide (LY (S.1 0) n j = w + 1)) (q := fun j => decide (w < LY (S.1 0) n j)) (fun j hj => by simp at hj ⊢; omega) (k := k + 1) (n := n) (by omega)
                          have hct := cnt_t (p := fun j => decide (LY (S.1 0) n j = w + 1)) (k := k) rfl c_165
                          refine lv_aload_n hx hb dX5_peel_168 rfl (lv_at hl 0 rfl) ?_
                          refine mg_32 X rfl hW dX5_peel_169 ?_
                          refine lv_iload_n hx hb dX5_peel_172 rfl (lv_at hl 3 rfl) ?_
                          refine lv_iload_n hx hb dX5_peel_173 rfl (lv_at hl 2 rfl) ?_
                          refine m_st X hL hW 7 (by decide) rfl k rfl (by show k < 40; omega) dX5_peel_174 (fun H locs hL hW hO1 => ?_)
                          have hO := hO.trans hO1
                          have hW := MW.cast (S1 := uA S 7 (upd (prI (S.1 7) n (LY (S.1 0) n) w k) k (nI (w + 1)))) hW ⟨rfl, rfl, rfl, rfl, rfl, rfl, rfl, rfl, rfl, rfl, rfl, rfl, rfl, rfl, rfl, rfl, rfl⟩
                          have hW := MW.eqA (k := 7) (f := upd (prI (S.1 7) n (LY (S.1 0) n) w k) k (nI (w + 1))) (f1 := prI (S.1 7) n (LY (S.1 0) n) w (k + 1)) hW (prI_s (by omega) hLk) rfl (fun h => MW.cast (S1 := uA S 7 (prI (S.1 7) n (LY (S.1 0) n) w (k + 1))) h ⟨rfl, rfl, rfl, rfl, rfl, rfl, rfl, rfl, rfl, rfl, rfl, rfl, rfl, rfl, rfl, rfl, rfl⟩)
                          refine lv_iinc (v := (nI (y - 1))) (lv' := [(1, .int _), (0, .ref _), (2, .int _), (3, .int _), (4, .int _)]) hx hb dX5_peel_175 hl (k := 1) rfl (nI_dec (by omega)) (by decide) rfl (fun ls hl => ?_)
                          refine lv_iinc (v := nI (k + 1)) (lv' := [(3, .int _), (1, .int _), (0, .ref _), (2, .int _), (4, .int _)]) hx hb dX5_peel_178 hl (k := 3) rfl (nI_iinc _ 1 rfl) (by decide) rfl (fun ls hl => ?_)
                          refine lv_goto (tgt := 68) hx hb dX5_peel_181 (by decide) ?_
                          exact ih68 (y - 1) (k + 1) (by omega) (by have := cnt_t (p := fun j => decide (LY (S.1 0) n j = w + 1)) (k := k) rfl c_165; omega) (by omega) _ hW hO _ hL ls (lv_sub hl [2, 1, 3, 0] rfl)
                      have L100 : ∀ (fuel : Nat) (b : Bool) (j : Nat), n - j < fuel → (b = (decide (w < LY (S.1 0) n k) && allB (fun j => decide (LY (S.1 0) n j ≤ w) || !beatB (S.1 0) j k) j)) → (j ≤ n) → ∀ (locs : List Loc), (∀ q ∈ locs, gLo g ≤ q.base) → ∀ (ls : Array Slot), lv_has ls 6 [(0, .ref o), (1, .int (nI y)), (2, .int (nI (w + 1))), (3, .int (nI k)), (4, .int (bI b)), (5, .int (nI j))] → W p l e (rmL 6 0 0) s m args below meth c H locs 0 0 (MQ below (Qcg (fun r H H1 => r = some (.int (nI (maxN (LY (S.1 0) n) n))) ∧ MW g o (uA S 7 (setI (S.1 7) n (fun k => nI (LY (S.1 0) n k)))) H1 ∧ Off o H H1)) args s 0 0 (fre g)) (F0 m 100 ls []) := by
                        intro fuel
                        induction fuel with
                        | zero => intro b j hfu; exact absurd hfu (Nat.not_lt_zero _)
                        | succ fuel ih100 =>
                          intro b j hfu hb2 hj  locs hL ls hl
                          refine lv_iload hx hb dX5_peel_100 (lv_at hl 5 rfl) ?_
                          refine lv_aload_n hx hb dX5_peel_102 rfl (lv_at hl 0 rfl) ?_
                          refine mg_7 X rfl hW dX5_peel_103 ?_
                          refine lv_sipush (v := nI 160) hx hb dX5_peel_106 (by decide) ?_
                          refine m_ld (v := (nI n)) X hW 0 (by decide) rfl 160 rfl (by decide) (show (S.1 0) 160 = (nI n) from hN) dX5_peel_109 ?_
                          refine n_icmp_ge (tgt := 163) X dX5_peel_110 (by decide) (by omega) (by omega) (fun c_110 => ?_) (fun c_110 => ?_)
                          ·
                            exact C163 b (by rw [hb2, show j = n by omega]; exact LY_is hR (by omega)) _ hL ls (lv_sub hl [0, 1, 2, 3, 4] rfl)
                          ·
                            refine lv_iload hx hb dX5_peel_113 (lv_at hl 4 rfl) ?_
                            refine b_ifeq (tgt := 163) X dX5_peel_115 (by decide) (fun c_115 => ?_) (fun c_115 => ?_)
                            ·
                              exact C163 b (by rw [c_115, ← LY_is hR (by omega)]; exact (andB_f (hb2.symm.trans c_115) hj).symm) _ hL ls (lv_sub hl [0, 1, 2, 3, 4] rfl)
                            ·
                              refine lv_aload_n hx hb dX5_peel_118 rfl (lv_at hl 0 rfl) ?_
                              refine mg_32 X rfl hW dX5_peel_119 ?_
                              refine lv_iload hx hb dX5_peel_122 (lv_at hl 5 rfl) ?_
                              refine m_ld (v := (pvI (LY (S.1 0) n) w k j)) X hW 7 (by decide) rfl j rfl (by show j < 40; omega) (show (prI (S.1 7) n (LY (S.1 0) n) w k) j = (pvI (LY (S.1 0) n) w k j) from (prI_l (by omega))) dX5_peel_124 ?_
                              refine lv_iconst (v := (-1)) hx hb dX5_peel_125 (by decide) ?_
                              refine lv_icmp_eq (tgt := 140) hx hb dX5_peel_126 (by decide) (fun c_126 => ?_) (fun c_126 => ?_)
                              ·
                                refine lv_aload_n hx hb dX5_peel_140 rfl (lv_at hl 0 rfl) ?_
                                refine lv_iload hx hb dX5_peel_141 (lv_at hl 5 rfl) ?_
                                refine lv_iload_n hx hb dX5_peel_143 rfl (lv_at hl 3 rfl) ?_
                                refine Cp.callV (v := .int (bI (beatB (S.1 0) j k))) (ct_X5_beat l g o j k (uA S 7 (prI (S.1 7) n (LY (S.1 0) n) w k)) (by omega) (by omega)) X hL hl vb_X5_beat q2083 (hW.2.1.recv hKV rfl) rfl rfl (Nat.le_of_ble_eq_true rfl) dX5_peel_144 ⟨Nat.le_of_ble_eq_true rfl, Nat.le_of_ble_eq_true rfl⟩ (by omega) (by omega) hW (fun locs hL => ?_)
                                refine b_ifne (tgt := 154) X dX5_peel_147 (by decide) (fun c_147 => ?_) (fun c_147 => ?_)
                                ·
                                  refine lv_iconst (v := nI 0) hx hb dX5_peel_154 (by decide) ?_
                                  refine lv_istore (lv' := [(4, .int _), (0, .ref _), (1, .int _), (2, .int _), (3, .int _), (5, .int _)]) hx hb dX5_peel_155 hl (by decide) rfl (fun ls hl => ?_)
                                  refine lv_iinc (v := nI (j + 1)) (lv' := [(5, .int _), (4, .int _), (0, .ref _), (1, .int _), (2, .int _), (3, .int _)]) hx hb dX5_peel_157 hl (k := 5) rfl (nI_iinc _ 1 rfl) (by decide) rfl (fun ls hl => ?_)
                                  refine lv_goto (tgt := 100) hx hb dX5_peel_160 (by decide) ?_
                                  exact ih100 false (j + 1) (by omega) (by rw [hb2] at c_115; rw [allB_1, ← Bool.and_assoc, c_115]; rw [c_147, decide_eq_false (fun x => ((pv_c (k := k) (LY_le (S.1 0) n j) (by omega)).mpr x).1 c_126)]; rfl) (by omega) _ hL ls (lv_sub hl [2, 3, 4, 5, 1, 0] rfl)
                                ·
                                  refine lv_iconst (v := nI 1) hx hb dX5_peel_150 (by decide) ?_
                                  refine lv_goto (tgt := 155) hx hb dX5_peel_151 (by decide) ?_
                                  refine lv_istore (lv' := [(4, .int _), (0, .ref _), (1, .int _), (2, .int _), (3, .int _), (5, .int _)]) hx hb dX5_peel_155 hl (by decide) rfl (fun ls hl => ?_)
                                  refine lv_iinc (v := nI (j + 1)) (lv' := [(5, .int _), (4, .int _), (0, .ref _), (1, .int _), (2, .int _), (3, .int _)]) hx hb dX5_peel_157 hl (k := 5) rfl (nI_iinc _ 1 rfl) (by decide) rfl (fun ls hl => ?_)
                                  refine lv_goto (tgt := 100) hx hb dX5_peel_160 (by decide) ?_
                                  exact ih100 true (j + 1) (by omega) (by rw [hb2] at c_115; rw [allB_1, ← Bool.and_assoc, c_115]; simp [c_147]) (by omega) _ hL ls (lv_sub hl [2, 3, 4, 5, 1, 0] rfl)
                              ·
                                refine lv_aload_n hx hb dX5_peel_129 rfl (lv_at hl 0 rfl) ?_
                                refine mg_32 X rfl hW dX5_peel_130 ?_
                                refine lv_iload hx hb dX5_peel_133 (lv_at hl 5 rfl) ?_
                                refine m_ld (v := (pvI (LY (S.1 0) n) w k j)) X hW 7 (by decide) rfl j rfl (by show j < 40; omega) (show (prI (S.1 7) n (LY (S.1 0) n) w k) j = (pvI (LY (S.1 0) n) w k j) from (prI_l (by omega))) dX5_peel_135 ?_
                                refine lv_iload_n hx hb dX5_peel_136 rfl (lv_at hl 2 rfl) ?_
                                refine lv_icmp_ne (tgt := 150) hx hb dX5_peel_137 (by decide) (fun c_137 => ?_) (fun c_137 => ?_)
                                ·
                                  refine lv_iconst (v := nI 1) hx hb dX5_peel_150 (by decide) ?_
                                  refine lv_goto (tgt := 155) hx hb dX5_peel_151 (by decide) ?_
                                  refine lv_istore (lv' := [(4, .int _), (0, .ref _), (1, .int _), (2, .int _), (3, .int _), (5, .int _)]) hx hb dX5_peel_155 hl (by decide) rfl (fun ls hl => ?_)
                                  refine lv_iinc (v := nI (j + 1)) (lv' := [(5, .int _), (4, .int _), (0, .ref _), (1, .int _), (2, .int _), (3, .int _)]) hx hb dX5_peel_157 hl (k := 5) rfl (nI_iinc _ 1 rfl) (by decide) rfl (fun ls hl => ?_)
                                  refine lv_goto (tgt := 100) hx hb dX5_peel_160 (by decide) ?_
                                  exact ih100 true (j + 1) (by omega) (by rw [hb2] at c_115; rw [allB_1, ← Bool.and_assoc, c_115]; simp [(pv_c (k := k) (LY_le (S.1 0) n j) (by omega)).mp ⟨c_126, c_137⟩]) (by omega) _ hL ls (lv_sub hl [2, 3, 4, 5, 1, 0] rfl)
                                ·
                                  refine lv_aload_n hx hb dX5_peel_140 rfl (lv_at hl 0 rfl) ?_
                                  refine lv_iload hx hb dX5_peel_141 (lv_at hl 5 rfl) ?_
                                  refine lv_iload_n hx hb dX5_peel_143 rfl (lv_at hl 3 rfl) ?_
                                  refine Cp.callV (v := .int (bI (beatB (S.1 0) j k))) (ct_X5_beat l g o j k (uA S 7 (prI (S.1 7) n (LY (S.1 0) n) w k)) (by omega) (by omega)) X hL hl vb_X5_beat q2083 (hW.2.1.recv hKV rfl) rfl rfl (Nat.le_of_ble_eq_true rfl) dX5_peel_144 ⟨Nat.le_of_ble_eq_true rfl, Nat.le_of_ble_eq_true rfl⟩ (by omega) (by omega) hW (fun locs hL => ?_)
                                  refine b_ifne (tgt := 154) X dX5_peel_147 (by decide) (fun c_147 => ?_) (fun c_147 => ?_)
                                  ·
                                    refine lv_iconst (v := nI 0) hx hb dX5_peel_154 (by decide) ?_
                                    refine lv_istore (lv' := [(4, .int _), (0, .ref _), (1, .int _), (2, .int _), (3, .int _), (5, .int _)]) hx hb dX5_peel_155 hl (by decide) rfl (fun ls hl => ?_)
                                    refine lv_iinc (v := nI (j + 1)) (lv' := [(5, .int _), (4, .int _), (0, .ref _), (1, .int _), (2, .int _), (3, .int _)]) hx hb dX5_peel_157 hl (k := 5) rfl (nI_iinc _ 1 rfl) (by decide) rfl (fun ls hl => ?_)
                                    refine lv_goto (tgt := 100) hx hb dX5_peel_160 (by decide) ?_
                                    exact ih100 false (j + 1) (by omega) (by rw [hb2] at c_115; rw [allB_1, ← Bool.and_assoc, c_115]; rw [c_147, decide_eq_false (fun x => ((pv_c (k := k) (LY_le (S.1 0) n j) (by omega)).mpr x).2 c_137)]; rfl) (by omega) _ hL ls (lv_sub hl [2, 3, 4, 5, 1, 0] rfl)
                                  ·
                                    refine lv_iconst (v := nI 1) hx hb dX5_peel_150 (by decide) ?_
                                    refine lv_goto (tgt := 155) hx hb dX5_peel_151 (by decide) ?_
                                    refine lv_istore (lv' := [(4, .int _), (0, .ref _), (1, .int _), (2, .int _), (3, .int _), (5, .int _)]) hx hb dX5_peel_155 hl (by decide) rfl (fun ls hl => ?_)
                                    refine lv_iinc (v := nI (j + 1)) (lv' := [(5, .int _), (4, .int _), (0, .ref _), (1, .int _), (2, .int _), (3, .int _)]) hx hb dX5_peel_157 hl (k := 5) rfl (nI_iinc _ 1 rfl) (by decide) rfl (fun ls hl => ?_)
                                    refine lv_goto (tgt := 100) hx hb dX5_peel_160 (by decide) ?_
                                    exact ih100 true (j + 1) (by omega) (by rw [hb2] at c_115; rw [allB_1, ← Bool.and_assoc, c_115]; simp [c_147]) (by omega) _ hL ls (lv_sub hl [2, 3, 4, 5, 1, 0] rfl)
                      exact L100 (n + 1) true 0 (by omega) (by rw [allB_0, Bool.and_true]; exact (decide_eq_true ((ly_m1 (LY_le (S.1 0) n k)).mp c_87)).symm) (by omega) _ hL ls (lv_sub hl [2, 3, 4, 5, 1, 0] rfl)
              exact L68 (n + 1) x 0 (by omega) rfl (by omega) _ hW hO _ hL ls (lv_sub hl [2, 3, 1, 0] rfl)
        exact L59 402 v 0 (by omega) (by rw [hv, show k = n by omega]; exact cnt_congr (fun j hj => by have e := LY_0 hR hj; cases h : cB (S.1 0) j <;> simp [h] at e ⊢ <;> omega)) (by omega) (Or.inl rfl) _ (MW.cast hW ⟨rfl, rfl, rfl, rfl, rfl, rfl, rfl, (by rw [show k = n by omega]; exact pr_init hR), rfl, rfl, rfl, rfl, rfl, rfl, rfl, rfl, rfl⟩) hO _ hL ls (lv_sub hl [1, 2, 0] rfl)
      ·
        refine lv_aload_n hx hb dX5_peel_16 rfl (lv_at hl 0 rfl) ?_
        refine mg_32 X rfl hW dX5_peel_17 ?_
        refine lv_iload_n hx hb dX5_peel_20 rfl (lv_at hl 2 rfl) ?_
        refine lv_aload_n hx hb dX5_peel_21 rfl (lv_at hl 0 rfl) ?_
        refine lv_iload_n hx hb dX5_peel_22 rfl (lv_at hl 2 rfl) ?_
        refine Cp.callV (v := .int (bI (cB (S.1 0) k))) (ct_X5_counts l g o k (uA S 7 (setI (S.1 7) k (fun k => if cB (S.1 0) k then (-1) else nI 0))) (by omega)) X hL hl vb_X5_counts q1939 (hW.2.1.recv hKV rfl) rfl rfl (Nat.le_of_ble_eq_true rfl) dX5_peel_23 ⟨Nat.le_of_ble_eq_true rfl, Nat.le_of_ble_eq_true rfl⟩ (by omega) (by omega) hW (fun locs hL => ?_)
        refine b_ifeq (tgt := 33) X dX5_peel_26 (by decide) (fun c_26 => ?_) (fun c_26 => ?_)
        ·
          refine lv_iconst (v := nI 0) hx hb dX5_peel_33 (by decide) ?_
          refine m_st X hL hW 7 (by decide) rfl k rfl (by show k < 40; omega) dX5_peel_34 (fun H locs hL hW hO1 => ?_)
          have hO := hO.trans hO1
          have hW := MW.cast (S1 := uA S 7 (upd (setI (S.1 7) k (fun k => if cB (S.1 0) k then (-1) else nI 0)) k (nI 0))) hW ⟨rfl, rfl, rfl, rfl, rfl, rfl, rfl, rfl, rfl, rfl, rfl, rfl, rfl, rfl, rfl, rfl, rfl⟩
          have hW := MW.eqA (k := 7) (f := upd (setI (S.1 7) k (fun k => if cB (S.1 0) k then (-1) else nI 0)) k (nI 0)) (f1 := setI (S.1 7) (k + 1) (fun k => if cB (S.1 0) k then (-1) else nI 0)) hW (setI_s _ _ _ (by simp [c_26])) rfl (fun h => MW.cast (S1 := uA S 7 (setI (S.1 7) (k + 1) (fun k => if cB (S.1 0) k then (-1) else nI 0))) h ⟨rfl, rfl, rfl, rfl, rfl, rfl, rfl, rfl, rfl, rfl, rfl, rfl, rfl, rfl, rfl, rfl, rfl⟩)
          refine lv_iload_n hx hb dX5_peel_35 rfl (lv_at hl 1 rfl) ?_
          refine lv_aload_n hx hb dX5_peel_36 rfl (lv_at hl 0 rfl) ?_
          refine lv_iload_n hx hb dX5_peel_37 rfl (lv_at hl 2 rfl) ?_
          refine Cp.callV (v := .int (bI (cB (S.1 0) k))) (ct_X5_counts l g o k (uA S 7 (setI (S.1 7) (k + 1) (fun k => if cB (S.1 0) k then (-1) else nI 0))) (by omega)) X hL hl vb_X5_counts q1939 (hW.2.1.recv hKV rfl) rfl rfl (Nat.le_of_ble_eq_true rfl) dX5_peel_38 ⟨Nat.le_of_ble_eq_true rfl, Nat.le_of_ble_eq_true rfl⟩ (by omega) (by omega) hW (fun locs hL => ?_)
          refine b_ifeq (tgt := 48) X dX5_peel_41 (by decide) (fun c_41 => ?_) (fun c_41 => ?_)
          ·
            refine lv_iconst (v := nI 0) hx hb dX5_peel_48 (by decide) ?_
            refine n_iadd X dX5_peel_49 ?_
            refine lv_istore_n (lv' := [(1, .int _), (0, .ref _), (2, .int _)]) hx hb dX5_peel_50 rfl hl (by decide) rfl (fun ls hl => ?_)
            refine lv_iinc (v := nI (k + 1)) (lv' := [(2, .int _), (1, .int _), (0, .ref _)]) hx hb dX5_peel_51 hl (k := 2) rfl (nI_iinc _ 1 rfl) (by decide) rfl (fun ls hl => ?_)
            refine lv_goto (tgt := 4) hx hb dX5_peel_54 (by decide) ?_
            exact ih4 _ _ (by omega) (by first | exact cnt_t hv c_41 | exact cnt_f hv c_41) (by omega) _ hW hO _ hL ls (lv_sub hl [2, 1, 0] rfl)
          ·
            exact absurd (c_26.symm.trans c_41) (by decide)
        ·
          refine lv_iconst (v := (-1)) hx hb dX5_peel_29 (by decide) ?_
          refine lv_goto (tgt := 34) hx hb dX5_peel_30 (by decide) ?_
          refine m_st X hL hW 7 (by decide) rfl k rfl (by show k < 40; omega) dX5_peel_34 (fun H locs hL hW hO1 => ?_)
          have hO := hO.trans hO1
          have hW := MW.cast (S1 := uA S 7 (upd (setI (S.1 7) k (fun k => if cB (S.1 0) k then (-1) else nI 0)) k (-1))) hW ⟨rfl, rfl, rfl, rfl, rfl, rfl, rfl, rfl, rfl, rfl, rfl, rfl, rfl, rfl, rfl, rfl, rfl⟩
          have hW := MW.eqA (k := 7) (f := upd (setI (S.1 7) k (fun k => if cB (S.1 0) k then (-1) else nI 0)) k (-1)) (f1 := setI (S.1 7) (k + 1) (fun k => if cB (S.1 0) k then (-1) else nI 0)) hW (setI_s _ _ _ (by simp [c_26])) rfl (fun h => MW.cast (S1 := uA S 7 (setI (S.1 7) (k + 1) (fun k => if cB (S.1 0) k then (-1) else nI 0))) h ⟨rfl, rfl, rfl, rfl, rfl, rfl, rfl, rfl, rfl, rfl, rfl, rfl, rfl, rfl, rfl, rfl, rfl⟩)
          refine lv_iload_n hx hb dX5_peel_35 rfl (lv_at hl 1 rfl) ?_
          refine lv_aload_n hx hb dX5_peel_36 rfl (lv_at hl 0 rfl) ?_
          refine lv_iload_n hx hb dX5_peel_37 rfl (lv_at hl 2 rfl) ?_
          refine Cp.callV (v := .int (bI (cB (S.1 0) k))) (ct_X5_counts l g o k (uA S 7 (setI (S.1 7) (k + 1) (fun k => if cB (S.1 0) k then (-1) else nI 0))) (by omega)) X hL hl vb_X5_counts q1939 (hW.2.1.recv hKV rfl) rfl rfl (Nat.le_of_ble_eq_true rfl) dX5_peel_38 ⟨Nat.le_of_ble_eq_true rfl, Nat.le_of_ble_eq_true rfl⟩ (by omega) (by omega) hW (fun locs hL => ?_)
          refine b_ifeq (tgt := 48) X dX5_peel_41 (by decide) (fun c_41 => ?_) (fun c_41 => ?_)
          ·
            exact absurd (c_26.symm.trans c_41) (by decide)
          ·
            refine lv_iconst (v := nI 1) hx hb dX5_peel_44 (by decide) ?_
            refine lv_goto (tgt := 49) hx hb dX5_peel_45 (by decide) ?_
            refine n_iadd X dX5_peel_49 ?_
            refine lv_istore_n (lv' := [(1, .int _), (0, .ref _), (2, .int _)]) hx hb dX5_peel_50 rfl hl (by decide) rfl (fun ls hl => ?_)
            refine lv_iinc (v := nI (k + 1)) (lv' := [(2, .int _), (1, .int _), (0, .ref _)]) hx hb dX5_peel_51 hl (k := 2) rfl (nI_iinc _ 1 rfl) (by decide) rfl (fun ls hl => ?_)
            refine lv_goto (tgt := 4) hx hb dX5_peel_54 (by decide) ?_
            exact ih4 _ _ (by omega) (by first | exact cnt_t hv c_41 | exact cnt_f hv c_41) (by omega) _ hW hO _ hL ls (lv_sub hl [2, 1, 0] rfl)
  exact L4 (n + 1) 0 0 (by omega) rfl (by omega) _ (MW.cast hW ⟨rfl, rfl, rfl, rfl, rfl, rfl, rfl, (setI_0 (S.1 7) (fun k => if cB (S.1 0) k then (-1) else nI 0)).symm, rfl, rfl, rfl, rfl, rfl, rfl, rfl, rfl, rfl⟩) hO _ hL ls (lv_sub hl [2, 1, 0] rfl)
theorem vb_X5_peel : VB yX5_peel cX5_peel 6 (some .int) 0 := ⟨q2137, qs82, q111, q2138, ⟨by decide, by decide, by decide +kernel⟩⟩
