/-! the model's walks, ninth part: layers asked, pruning, raising, two -/
def setD (f : Nat → Int32) (k n : Nat) (p : Nat → Bool) : Nat → Int32 := fun j => if k ≤ j ∧ j < n then bI (p j) else f j
theorem setD_n (f : Nat → Int32) (n : Nat) (p : Nat → Bool) : setD f n n p = f := by funext j; simp only [setD]; rw [if_neg (by omega)]
theorem setD_s (f : Nat → Int32) {k n : Nat} (p : Nat → Bool) (h0 : 0 < k) (hk : k ≤ n) {v : Int32} (h : v = bI (p (k - 1))) : upd (setD f k n p) (k - 1) v = setD f (k - 1) n p := by
  funext j; subst h
  by_cases q : j = k - 1
  · subst q; simp only [upd, setD, if_true]; rw [if_pos (by omega)]
  · have : (k - 1 ≤ j ∧ j < n) = (k ≤ j ∧ j < n) := by simp; omega
    simp only [upd, setD, q, this, if_false]
theorem setD_l {f : Nat → Int32} {k n j : Nat} {p : Nat → Bool} (h1 : k ≤ j) (h : j < n) : setD f k n p j = bI (p j) := by simp [setD, h, h1]
/-- the last d places looked at, those of p taken out: the row, how many stay -/
def prD (r : Nat → Int32) (n : Nat) (p : Nat → Bool) : Nat → (Nat → Int32) × Nat
  | 0 => (r, n)
  | d + 1 => if p (n - (d + 1)) then (delR (prD r n p d).1 (prD r n p d).2 (n - (d + 1)), (prD r n p d).2 - 1) else prD r n p d
theorem prD_b (r : Nat → Int32) (n : Nat) (p : Nat → Bool) : ∀ d, d ≤ n → n ≤ (prD r n p d).2 + d ∧ (prD r n p d).2 ≤ n
  | 0, _ => ⟨Nat.le_refl _, Nat.le_refl _⟩
  | d + 1, h => by
    have := prD_b r n p d (by omega)
    unfold prD
    split
    · show _ ≤ _ - 1 + _ ∧ _ - 1 ≤ _; omega
    · omega
theorem delR_160 (r : Nat → Int32) (n i : Nat) : delR r n i 160 = nI (n - 1) := by unfold delR; rw [upd_n _ _ (by decide), upd_s]
theorem prD_160 {r : Nat → Int32} {n : Nat} (p : Nat → Bool) (h : r 160 = nI n) : ∀ d, (prD r n p d).1 160 = nI (prD r n p d).2
  | 0 => h
  | d + 1 => by
    unfold prD
    split
    · exact delR_160 (prD r n p d).1 (prD r n p d).2 (n - (d + 1))
    · exact prD_160 p h d
theorem prD_f {r : Nat → Int32} {n k : Nat} {p : Nat → Bool} (h0 : 0 < k) (hk : k ≤ n) (h : p (k - 1) = false) : (prD r n p (n - k)).1 = (prD r n p (n - (k - 1))).1 := by
  have e : prD r n p (n - (k - 1)) = prD r n p (n - k) := by
    rw [show n - (k - 1) = n - k + 1 by omega, prD, show n - (n - k + 1) = k - 1 by omega, h, if_neg (by decide)]
  rw [e]
theorem prD_t {r : Nat → Int32} {n k : Nat} {p : Nat → Bool} (h0 : 0 < k) (hk : k ≤ n) (h : p (k - 1) = true) : delR (prD r n p (n - k)).1 (prD r n p (n - k)).2 (k - 1) = (prD r n p (n - (k - 1))).1 := by
  have e : prD r n p (n - (k - 1)) = (delR (prD r n p (n - k)).1 (prD r n p (n - k)).2 (k - 1), (prD r n p (n - k)).2 - 1) := by
    rw [show n - (k - 1) = n - k + 1 by omega, prD, show n - (n - k + 1) = k - 1 by omega, h, if_pos rfl]
  rw [e]
theorem r_k0 {k n : Nat} (hk : k ≤ n) (hn : n ≤ 40) (h : nI k - nI 1 < 0) : k = 0 := by
  rcases Nat.eq_zero_or_pos k with q | q
  · exact q
  · rw [pk_sub q] at h; exact absurd h (nI_pos (by omega))
theorem r_k1 {k : Nat} (h : ¬ nI k - nI 1 < 0) : 0 < k := by
  rcases Nat.eq_zero_or_pos k with q | q
  · rw [q] at h; exact absurd (by decide) h
  · exact q
theorem r_dec1 {k : Nat} (h : 0 < k) : nI k - nI 1 + Int32.ofInt (-1) = nI (k - 1) - nI 1 := by
  rw [pk_sub h, Int32.sub_eq_add_neg]; rfl
def prB (r : Nat → Int32) (n : Nat) (k : Nat) : Bool := cB r k && !tellB r n (hasB (matI (mw r))) k
def s_prune (S : MS) (n st : Nat) : Nat × Option Value × MS := (0, vI (nI (n - (prD (S.1 0) n (prB (S.1 0) n) n).2)), upR S st (prD (S.1 0) n (prB (S.1 0) n) n).1)
def s_inL (S : MS) (n : Nat) (x : Int32) : Nat × Option Value × MS := if x < nI 1 then x_ S 1 else q_ S (nI (cnt (fun k => decide (nI (LY (S.1 0) n k) = x)) n))
/-- how much to raise: by b or more -/
def raG (r : Nat → Int32) (n i q : Nat) : Nat → Nat → Int32
  | 0, _ => (-1)
  | f + 1, b => if isTB (upd r (4 * i + q) (r (4 * i + q) + (if mw r q = nI 1 then nI 1 else (-1)) * nI b)) n i then nI b else if inB (r (4 * i + q) + (if mw r q = nI 1 then nI 1 else (-1)) * nI (b + 1)) (mle r q) (mgr r q) then raG r n i q f (b + 1) else (-1)
def raI (r : Nat → Int32) (n i q : Nat) : Int32 := raG r n i q 100 0
theorem upd_self (f : Nat → Int32) (k : Nat) : upd f k (f k) = f := by funext j; by_cases h : j = k <;> simp [upd, h]
theorem upd_raise0 (r : Nat → Int32) (k : Nat) (x : Int32) : upd r k (r k + x * nI 0) = r := by
  rw [show r k + x * nI 0 = r k by rw [nI_0]; simp]; exact upd_self r k
theorem raise_up {v le gr : Int32} {b : Nat} (hb : b ≤ 99) (hv : inB v (nI 0) (nI 99) = true) (hg : inB gr (nI 0) (nI 99) = true) (h : inB (v + nI 1 * nI (b + 1)) le gr = true) : b + 1 ≤ 99 := by
  obtain ⟨hv1, -, hv2⟩ := inB_nat (by omega) (by omega) hv
  obtain ⟨hg1, -, hg2⟩ := inB_nat (by omega) (by omega) hg
  unfold inB at h
  rw [Bool.and_eq_true, decide_eq_true_eq, decide_eq_true_eq, pk_mul, hv1, hg1, nI_add, nI_leI (by omega) (by omega)] at h
  omega
theorem m1_mul (b : Nat) : (-1 : Int32) * nI b = -nI b := by rw [Int32.neg_mul, Int32.one_mul]
theorem raise_dn {v le gr : Int32} {b : Nat} (hb : b ≤ 99) (hv : inB v (nI 0) (nI 99) = true) (hl : inB le (nI 0) (nI 99) = true) (h : inB (v + (-1) * nI (b + 1)) le gr = true) : b + 1 ≤ 99 := by
  obtain ⟨hv1, -, hv2⟩ := inB_nat (by omega) (by omega) hv
  obtain ⟨hl1, -, hl2⟩ := inB_nat (by omega) (by omega) hl
  rcases Nat.lt_or_ge v.toNatClampNeg (b + 1) with q | q
  · exfalso
    unfold inB at h
    rw [Bool.and_eq_true, decide_eq_true_eq, decide_eq_true_eq, m1_mul] at h
    have h1 := Int32.le_iff_toInt_le.mp h.1
    have e1 : (v + -nI (b + 1)).toInt = (v.toNatClampNeg : Int) - (b + 1 : Nat) := by
      have hvi := nI_toInt (n := v.toNatClampNeg) (by omega)
      rw [← hv1] at hvi
      rw [← Int32.sub_eq_add_neg, Int32.toInt_sub, hvi, nI_toInt (by omega)]
      rw [Int.bmod_def]; omega
    have e2 : le.toInt = (le.toNatClampNeg : Int) := by
      have hli := nI_toInt (n := le.toNatClampNeg) (by omega)
      rw [← hl1] at hli
      exact hli
    omega
  · omega
theorem raise_b {r : Nat → Int32} {n i q b : Nat} (h : RO r n) (hi : i < n) (hq : q < 4) (hb : b ≤ 99) (e : inB (r (4 * i + q) + (if mw r q = nI 1 then nI 1 else (-1)) * nI (b + 1)) (mle r q) (mgr r q) = true) : b + 1 ≤ 99 := by
  have hv := h.1 (4 * i + q) (by omega)
  split at e
  · exact raise_up hb hv (h.2.2.2.1 q hq) e
  · exact raise_dn hb hv (h.2.2.1 q hq) e
theorem raG_s {r : Nat → Int32} {n i q b : Nat} (hb : b ≤ 99) : raG r n i q (100 - b) b = if isTB (upd r (4 * i + q) (r (4 * i + q) + (if mw r q = nI 1 then nI 1 else (-1)) * nI b)) n i then nI b else if inB (r (4 * i + q) + (if mw r q = nI 1 then nI 1 else (-1)) * nI (b + 1)) (mle r q) (mgr r q) then raG r n i q (100 - (b + 1)) (b + 1) else (-1) := by
  rw [show 100 - b = (100 - (b + 1)) + 1 by omega, raG]
def s_raise (S : MS) (n : Nat) (i q : Int32) : Nat × Option Value × MS := if noB n i || noS q then x_ S 1 else if !cB (S.1 0) i.toNatClampNeg || !matB (mw (S.1 0)) q.toNatClampNeg then x_ S 2 else if raI (S.1 0) n i.toNatClampNeg q.toNatClampNeg = (-1) then x_ S 2 else q_ S (raI (S.1 0) n i.toNatClampNeg q.toNatClampNeg)
/-- what two beat together -/
def twN (r : Nat → Int32) (n a b : Nat) : Nat := cnt (fun j => beatB r a j || beatB r b j) n
def twB (r : Nat → Int32) (n : Nat) (t : Nat → Bool) (a v : Nat) : Nat → Nat
  | 0 => v
  | b + 1 => if t a && (t b && decide (twB r n t a v b < twN r n a b)) then twN r n a b else twB r n t a v b
def twA (r : Nat → Int32) (n : Nat) (t : Nat → Bool) : Nat → Nat
  | 0 => 0
  | a + 1 => twB r n t a (twA r n t a) (a + 1)
theorem twB_le {r : Nat → Int32} {n : Nat} {t : Nat → Bool} {a v : Nat} (h : v ≤ n) : ∀ b, twB r n t a v b ≤ n
  | 0 => h
  | b + 1 => by
    unfold twB
    split
    · exact cnt_le _ _
    · exact twB_le h b
theorem twA_le (r : Nat → Int32) (n : Nat) (t : Nat → Bool) : ∀ a, twA r n t a ≤ n
  | 0 => Nat.zero_le _
  | a + 1 => twB_le (twA_le r n t a) _

set_option maxRecDepth 100000 in
set_option maxHeartbeats 4000000 in
theorem ct_X5_prune (l : Launch) (g : GT) (o n st : Nat) (S : MS) (hN : S.1 0 160 = nI n) (hn : n ≤ 40) (hst : S.2.1 12 = nI st) (hs6 : st ≤ 6) : Ct l g yX5_prune cX5_prune 3 (some .int) 7 0 0 [.ref o] (MW g o S) (fun r H H1 => ∃ S1, AP S1 (s_prune S n st) r ∧ MW g o S1 H1 ∧ Off o H H1) := by
  refine Ct.of (by decide) (Nat.le_of_ble_eq_true rfl) ?_
  intro p e s m args below meth c X hP ls hl
  have hx := X.1
  have hb := X.2.1
  have hKV := X.2.2.2.2.2.2.2.1.1
  have hL : ∀ q ∈ ([] : List Loc), gLo g ≤ q.base := fun _ h => by cases h
  have hl : lv_has ls 3 [(0, .ref o)] := hl
  have hW : MW g o S s.heap := hP
  have hO : Off o s.heap s.heap := Off.rfl'
  refine lv_aload_n hx hb dX5_prune_0 rfl (lv_at hl 0 rfl) ?_
  refine lv_iconst (v := nI 0) hx hb dX5_prune_1 (by decide) ?_
  refine mp_38 X rfl hL hW dX5_prune_2 (fun H locs hL hW hO1 => ?_)
  have hO := hO.trans hO1
  have hW := MW.cast (S1 := uS S 15 (nI 0)) hW ⟨rfl, rfl, rfl, rfl, rfl, rfl, rfl, rfl, rfl, rfl, rfl, rfl, rfl, rfl, rfl, rfl, rfl⟩
  refine lv_aload_n hx hb dX5_prune_5 rfl (lv_at hl 0 rfl) ?_
  refine Ct.callV (ct_X5_record l g o st (uS S 15 (nI 0)) hst (by omega)) X hL hl vb_X5_record q1888 (hW.2.1.recv hKV rfl) rfl rfl (Nat.le_of_ble_eq_true rfl) dX5_prune_6 ⟨Nat.le_of_ble_eq_true rfl, Nat.le_of_ble_eq_true rfl⟩ (by omega) (by omega) hW (fun r H1 locs hL hp => ?_)
  obtain ⟨rfl, hW, hO1⟩ := hp
  have hO := hO.trans hO1
  have hW := MW.cast (S1 := uS (uS (uA S 2 (recP (S.1 2) (S.1 0) st)) 12 (nI (recN st + 1))) 15 (nI 0)) hW ⟨rfl, rfl, rfl, rfl, rfl, rfl, rfl, rfl, rfl, rfl, rfl, rfl, rfl, rfl, rfl, rfl, rfl⟩
  refine lv_aload_n hx hb dX5_prune_9 rfl (lv_at hl 0 rfl) ?_
  refine mg_7 X rfl hW dX5_prune_10 ?_
  refine lv_sipush (v := nI 160) hx hb dX5_prune_13 (by decide) ?_
  refine m_ld (v := (nI n)) X hW 0 (by decide) rfl 160 rfl (by decide) (show (S.1 0) 160 = (nI n) from hN) dX5_prune_16 ?_
  refine lv_istore_n (lv' := [(1, .int _), (0, .ref _)]) hx hb dX5_prune_17 rfl hl (by decide) rfl (fun ls hl => ?_)
  refine lv_aload_n hx hb dX5_prune_18 rfl (lv_at hl 1 rfl) ?_
  refine lv_aload_n hx hb dX5_prune_19 rfl (lv_at hl 1 rfl) ?_
  refine Cp.callV (v := .int (matI (mw (S.1 0)))) (ct_X5_mattering l g o (uS (uS (uA S 2 (recP (S.1 2) (S.1 0) st)) 12 (nI (recN st + 1))) 15 (nI 0)) ) X hL hl vb_X5_mattering q1927 (hW.2.1.recv hKV rfl) rfl rfl (Nat.le_of_ble_eq_true rfl) dX5_prune_20 ⟨Nat.le_of_ble_eq_true rfl, Nat.le_of_ble_eq_true rfl⟩ (by omega) (by omega) hW (fun locs hL => ?_)
  refine Ct.callV (ct_X5_tell l g o n (uS (uS (uA S 2 (recP (S.1 2) (S.1 0) st)) 12 (nI (recN st + 1))) 15 (nI 0)) (matI (mw (S.1 0))) hN hn) X hL hl vb_X5_tell q1935 (hW.2.1.recv hKV rfl) rfl rfl (Nat.le_of_ble_eq_true rfl) dX5_prune_23 ⟨Nat.le_of_ble_eq_true rfl, Nat.le_of_ble_eq_true rfl⟩ (by omega) (by omega) hW (fun r H1 locs hL hp => ?_)
  obtain ⟨rfl, hW, hO1⟩ := hp
  have hO := hO.trans hO1
  have hW := MW.cast (S1 := uS (uS (uA (uA S 2 (recP (S.1 2) (S.1 0) st)) 5 (setB (S.1 5) n (tellB (S.1 0) n (hasB (matI (mw (S.1 0))))))) 12 (nI (recN st + 1))) 15 (nI 0)) hW ⟨rfl, rfl, rfl, rfl, rfl, rfl, rfl, rfl, rfl, rfl, rfl, rfl, rfl, rfl, rfl, rfl, rfl⟩
  refine W.stk (w := (nI (cnt (tellB (S.1 0) n (hasB (matI (mw (S.1 0))))) n))) rfl ?_
  refine lv_pop hx hb dX5_prune_26 rfl ?_
  refine lv_iload_n hx hb dX5_prune_27 rfl (lv_at hl 0 rfl) ?_
  refine lv_iconst (v := nI 1) hx hb dX5_prune_28 (by decide) ?_
  refine lv_isub hx hb dX5_prune_29 ?_
  refine lv_istore_n (lv' := [(2, .int _), (1, .int _), (0, .ref _)]) hx hb dX5_prune_30 rfl hl (by decide) rfl (fun ls hl => ?_)
  have L31 : ∀ (fuel : Nat) (k : Nat), k < fuel → (k ≤ n) → ∀ (H : Heap), MW g o (uS (uS (uA (uA (uA S 2 (recP (S.1 2) (S.1 0) st)) 5 (setB (S.1 5) n (tellB (S.1 0) n (hasB (matI (mw (S.1 0))))))) 6 (setD (S.1 6) k n (prB (S.1 0) n))) 12 (nI (recN st + 1))) 15 (nI 0)) H → Off o s.heap H → ∀ (locs : List Loc), (∀ q ∈ locs, gLo g ≤ q.base) → ∀ (ls : Array Slot), lv_has ls 3 [(0, .ref o), (1, .int (nI n)), (2, .int (nI k - nI 1))] → W p l e (rmL 7 0 0) s m args below meth c H locs 0 0 (MQ below (Qcg (fun r H H1 => ∃ S1, AP S1 (s_prune S n st) r ∧ MW g o S1 H1 ∧ Off o H H1)) args s 0 0 (fre g)) (F0 m 31 ls []) := by
    intro fuel
    induction fuel with
    | zero => intro k hfu; exact absurd hfu (Nat.not_lt_zero _)
    | succ fuel ih31 =>
      intro k hfu hk H hW hO locs hL ls hl
      refine lv_iload_n hx hb dX5_prune_31 rfl (lv_at hl 2 rfl) ?_
      refine lv_if_lt (tgt := 69) hx hb dX5_prune_32 (by decide) (fun c_32 => ?_) (fun c_32 => ?_)
      ·
        have hk0 : k = 0 := r_k0 hk hn c_32
        refine lv_iload_n hx hb dX5_prune_69 rfl (lv_at hl 1 rfl) ?_
        refine lv_iconst (v := nI 1) hx hb dX5_prune_70 (by decide) ?_
        refine lv_isub hx hb dX5_prune_71 ?_
        refine lv_istore_n (lv' := [(2, .int _), (0, .ref _), (1, .int _)]) hx hb dX5_prune_72 rfl hl (by decide) rfl (fun ls hl => ?_)
        have L73 : ∀ (fuel : Nat) (k : Nat), k < fuel → (k ≤ n) → ∀ (H : Heap), MW g o (uS (uS (uA (uA (uA (uA S 0 ((prD (S.1 0) n (prB (S.1 0) n) (n - k)).1)) 2 (recP (S.1 2) (S.1 0) st)) 5 (setB (S.1 5) n (tellB (S.1 0) n (hasB (matI (mw (S.1 0))))))) 6 (setD (S.1 6) 0 n (prB (S.1 0) n))) 12 (nI (recN st + 1))) 15 (nI 0)) H → Off o s.heap H → ∀ (locs : List Loc), (∀ q ∈ locs, gLo g ≤ q.base) → ∀ (ls : Array Slot), lv_has ls 3 [(0, .ref o), (1, .int (nI n)), (2, .int (nI k - nI 1))] → W p l e (rmL 7 0 0) s m args below meth c H locs 0 0 (MQ below (Qcg (fun r H H1 => ∃ S1, AP S1 (s_prune S n st) r ∧ MW g o S1 H1 ∧ Off o H H1)) args s 0 0 (fre g)) (F0 m 73 ls []) := by
          intro fuel
          induction fuel with
          | zero => intro k hfu; exact absurd hfu (Nat.not_lt_zero _)
          | succ fuel ih73 =>
            intro k hfu hk H hW hO locs hL ls hl
            refine lv_iload_n hx hb dX5_prune_73 rfl (lv_at hl 2 rfl) ?_
            refine lv_if_lt (tgt := 97) hx hb dX5_prune_74 (by decide) (fun c_74 => ?_) (fun c_74 => ?_)
            ·
              have hk0 : k = 0 := r_k0 hk hn c_74
              have hpb := prD_b (S.1 0) n (prB (S.1 0) n) n (Nat.le_refl n)
              have hW := MW.eqA (k := 0) (f := (prD (S.1 0) n (prB (S.1 0) n) (n - k)).1) (f1 := (prD (S.1 0) n (prB (S.1 0) n) n).1) hW (by rw [hk0]; rfl) rfl (fun h => MW.cast (S1 := uS (uS (uA (uA (uA (uA S 0 ((prD (S.1 0) n (prB (S.1 0) n) n).1)) 2 (recP (S.1 2) (S.1 0) st)) 5 (setB (S.1 5) n (tellB (S.1 0) n (hasB (matI (mw (S.1 0))))))) 6 (setD (S.1 6) 0 n (prB (S.1 0) n))) 12 (nI (recN st + 1))) 15 (nI 0)) h ⟨rfl, rfl, rfl, rfl, rfl, rfl, rfl, rfl, rfl, rfl, rfl, rfl, rfl, rfl, rfl, rfl, rfl⟩)
              refine lv_iload_n hx hb dX5_prune_97 rfl (lv_at hl 1 rfl) ?_
              refine lv_aload_n hx hb dX5_prune_98 rfl (lv_at hl 0 rfl) ?_
              refine mg_7 X rfl hW dX5_prune_99 ?_
              refine lv_sipush (v := nI 160) hx hb dX5_prune_102 (by decide) ?_
              refine m_ld (v := (nI ((prD (S.1 0) n (prB (S.1 0) n) n).2))) X hW 0 (by decide) rfl 160 rfl (by decide) (show ((prD (S.1 0) n (prB (S.1 0) n) n).1) 160 = (nI ((prD (S.1 0) n (prB (S.1 0) n) n).2)) from (prD_160 (prB (S.1 0) n) hN n)) dX5_prune_105 ?_
              refine n_isub X (by omega) dX5_prune_106 ?_
              exact r_iret X hL rfl rfl dX5_prune_107 (by omega) (by omega) ⟨uS (uS (uA (uA (uA (uA S 0 ((prD (S.1 0) n (prB (S.1 0) n) n).1)) 2 (recP (S.1 2) (S.1 0) st)) 5 (setB (S.1 5) n (tellB (S.1 0) n (hasB (matI (mw (S.1 0))))))) 6 (setD (S.1 6) 0 n (prB (S.1 0) n))) 12 (nI (recN st + 1))) 15 (nI 0), AP.mk (t := 0) (v := some (.int (nI (n - ((prD (S.1 0) n (prB (S.1 0) n) n).2))))) (X := upR S st (prD (S.1 0) n (prB (S.1 0) n) n).1) rfl ⟨rfl, rfl, rfl, rfl, rfl, rfl, rfl, rfl⟩ rfl rfl, hW, hO⟩
            ·
              have hk0 : 0 < k := r_k1 c_74
              have hpb := prD_b (S.1 0) n (prB (S.1 0) n) (n - k) (by omega)
              refine lv_aload_n hx hb dX5_prune_77 rfl (lv_at hl 0 rfl) ?_
              refine mg_29 X rfl hW dX5_prune_78 ?_
              refine lv_iload_n hx hb dX5_prune_81 rfl (lv_at hl 2 rfl) ?_
              refine W.stk (w := (nI (k - 1))) (pk_sub (by omega)) ?_
              refine m_zld (v := (bI (prB (S.1 0) n (k - 1)))) X hW 6 (by decide) rfl (k - 1) rfl (by show k - 1 < 40; omega) (show (setD (S.1 6) 0 n (prB (S.1 0) n)) (k - 1) = (bI (prB (S.1 0) n (k - 1))) from (setD_l (by omega) (by omega))) dX5_prune_82 ?_
              refine b_ifeq (tgt := 91) X dX5_prune_83 (by decide) (fun c_83 => ?_) (fun c_83 => ?_)
              ·
                refine lv_iinc (v := (nI (k - 1) - nI 1)) (lv' := [(2, .int _), (0, .ref _), (1, .int _)]) hx hb dX5_prune_91 hl (k := 2) rfl (r_dec1 hk0) (by decide) rfl (fun ls hl => ?_)
                refine lv_goto (tgt := 73) hx hb dX5_prune_94 (by decide) ?_
                exact ih73 (k - 1) (by omega) (by omega) _ (MW.cast hW ⟨(prD_f hk0 hk c_83), rfl, rfl, rfl, rfl, rfl, rfl, rfl, rfl, rfl, rfl, rfl, rfl, rfl, rfl, rfl, rfl⟩) hO _ hL ls (lv_sub hl [1, 2, 0] rfl)
              ·
                refine lv_aload_n hx hb dX5_prune_86 rfl (lv_at hl 0 rfl) ?_
                refine lv_iload_n hx hb dX5_prune_87 rfl (lv_at hl 2 rfl) ?_
                refine W.stk (w := (nI (k - 1))) (pk_sub (by omega)) ?_
                refine Ct.callV (ct_X5_removeNow l g o ((prD (S.1 0) n (prB (S.1 0) n) (n - k)).2) (k - 1) (uS (uS (uA (uA (uA (uA S 0 ((prD (S.1 0) n (prB (S.1 0) n) (n - k)).1)) 2 (recP (S.1 2) (S.1 0) st)) 5 (setB (S.1 5) n (tellB (S.1 0) n (hasB (matI (mw (S.1 0))))))) 6 (setD (S.1 6) 0 n (prB (S.1 0) n))) 12 (nI (recN st + 1))) 15 (nI 0)) (prD_160 (prB (S.1 0) n) hN (n - k)) (by omega) (by omega)) X hL hl vb_X5_removeNow q1908 (hW.2.1.recv hKV rfl) rfl rfl (Nat.le_of_ble_eq_true rfl) dX5_prune_88 ⟨Nat.le_of_ble_eq_true rfl, Nat.le_of_ble_eq_true rfl⟩ (by omega) (by omega) hW (fun r H1 locs hL hp => ?_)
                obtain ⟨rfl, hW, hO1⟩ := hp
                have hO := hO.trans hO1
                have hW := MW.cast (S1 := uS (uS (uA (uA (uA (uA S 0 (delR ((prD (S.1 0) n (prB (S.1 0) n) (n - k)).1) ((prD (S.1 0) n (prB (S.1 0) n) (n - k)).2) (k - 1))) 2 (recP (S.1 2) (S.1 0) st)) 5 (setB (S.1 5) n (tellB (S.1 0) n (hasB (matI (mw (S.1 0))))))) 6 (setD (S.1 6) 0 n (prB (S.1 0) n))) 12 (nI (recN st + 1))) 15 (nI 0)) hW ⟨rfl, rfl, rfl, rfl, rfl, rfl, rfl, rfl, rfl, rfl, rfl, rfl, rfl, rfl, rfl, rfl, rfl⟩
                refine lv_iinc (v := (nI (k - 1) - nI 1)) (lv' := [(2, .int _), (0, .ref _), (1, .int _)]) hx hb dX5_prune_91 hl (k := 2) rfl (r_dec1 hk0) (by decide) rfl (fun ls hl => ?_)
                refine lv_goto (tgt := 73) hx hb dX5_prune_94 (by decide) ?_
                exact ih73 (k - 1) (by omega) (by omega) _ (MW.cast hW ⟨(prD_t hk0 hk c_83), rfl, rfl, rfl, rfl, rfl, rfl, rfl, rfl, rfl, rfl, rfl, rfl, rfl, rfl, rfl, rfl⟩) hO _ hL ls (lv_sub hl [1, 2, 0] rfl)
        exact L73 (n + 1) n (by omega) (by omega) _ (by have hk9 : k = 0 := (by omega); subst hk9; exact MW.cast hW ⟨(by rw [Nat.sub_self]; rfl), rfl, rfl, rfl, rfl, rfl, rfl, rfl, rfl, rfl, rfl, rfl, rfl, rfl, rfl, rfl, rfl⟩) hO _ hL ls (lv_sub hl [1, 2, 0] rfl)
      ·
        have hk0 : 0 < k := r_k1 c_32
        refine lv_aload_n hx hb dX5_prune_35 rfl (lv_at hl 0 rfl) ?_
        refine mg_29 X rfl hW dX5_prune_36 ?_
        refine lv_iload_n hx hb dX5_prune_39 rfl (lv_at hl 2 rfl) ?_
        refine W.stk (w := (nI (k - 1))) (pk_sub (by omega)) ?_
        refine lv_aload_n hx hb dX5_prune_40 rfl (lv_at hl 0 rfl) ?_
        refine lv_iload_n hx hb dX5_prune_41 rfl (lv_at hl 2 rfl) ?_
        refine W.stk (w := (nI (k - 1))) (pk_sub (by omega)) ?_
        refine Cp.callV (v := .int (bI (cB (S.1 0) (k - 1)))) (ct_X5_counts l g o (k - 1) (uS (uS (uA (uA (uA S 2 (recP (S.1 2) (S.1 0) st)) 5 (setB (S.1 5) n (tellB (S.1 0) n (hasB (matI (mw (S.1 0))))))) 6 (setD (S.1 6) k n (prB (S.1 0) n))) 12 (nI (recN st + 1))) 15 (nI 0)) (by omega)) X hL hl vb_X5_counts q1939 (hW.2.1.recv hKV rfl) rfl rfl (Nat.le_of_ble_eq_true rfl) dX5_prune_42 ⟨Nat.le_of_ble_eq_true rfl, Nat.le_of_ble_eq_true rfl⟩ (by omega) (by omega) hW (fun locs hL => ?_)
        refine b_ifeq (tgt := 61) X dX5_prune_45 (by decide) (fun c_45 => ?_) (fun c_45 => ?_)
        ·
          refine lv_iconst (v := nI 0) hx hb dX5_prune_61 (by decide) ?_
          refine m_zst X hL hW 6 (by decide) rfl (k - 1) rfl (by show k - 1 < 40; omega) rfl dX5_prune_62 (fun H locs hL hW hO1 => ?_)
          have hO := hO.trans hO1
          have hW := MW.cast (S1 := uS (uS (uA (uA (uA S 2 (recP (S.1 2) (S.1 0) st)) 5 (setB (S.1 5) n (tellB (S.1 0) n (hasB (matI (mw (S.1 0))))))) 6 (upd (setD (S.1 6) k n (prB (S.1 0) n)) (k - 1) (nI 0))) 12 (nI (recN st + 1))) 15 (nI 0)) hW ⟨rfl, rfl, rfl, rfl, rfl, rfl, rfl, rfl, rfl, rfl, rfl, rfl, rfl, rfl, rfl, rfl, rfl⟩
          have hW := MW.eqA (k := 6) (f := upd (setD (S.1 6) k n (prB (S.1 0) n)) (k - 1) (nI 0)) (f1 := setD (S.1 6) (k - 1) n (prB (S.1 0) n)) hW (setD_s _ _ hk0 hk (by first | (simp [prB, c_45]; rfl) | (simp [prB, c_45, c_54]; rfl))) rfl (fun h => MW.cast (S1 := uS (uS (uA (uA (uA S 2 (recP (S.1 2) (S.1 0) st)) 5 (setB (S.1 5) n (tellB (S.1 0) n (hasB (matI (mw (S.1 0))))))) 6 (setD (S.1 6) (k - 1) n (prB (S.1 0) n))) 12 (nI (recN st + 1))) 15 (nI 0)) h ⟨rfl, rfl, rfl, rfl, rfl, rfl, rfl, rfl, rfl, rfl, rfl, rfl, rfl, rfl, rfl, rfl, rfl⟩)
          refine lv_iinc (v := (nI (k - 1) - nI 1)) (lv' := [(2, .int _), (0, .ref _), (1, .int _)]) hx hb dX5_prune_63 hl (k := 2) rfl (r_dec1 hk0) (by decide) rfl (fun ls hl => ?_)
          refine lv_goto (tgt := 31) hx hb dX5_prune_66 (by decide) ?_
          exact ih31 (k - 1) (by omega) (by omega) _ hW hO _ hL ls (lv_sub hl [1, 2, 0] rfl)
        ·
          refine lv_aload_n hx hb dX5_prune_48 rfl (lv_at hl 0 rfl) ?_
          refine mg_25 X rfl hW dX5_prune_49 ?_
          refine lv_iload_n hx hb dX5_prune_52 rfl (lv_at hl 2 rfl) ?_
          refine W.stk (w := (nI (k - 1))) (pk_sub (by omega)) ?_
          refine m_zld (v := (bI (tellB (S.1 0) n (hasB (matI (mw (S.1 0)))) (k - 1)))) X hW 5 (by decide) rfl (k - 1) rfl (by show k - 1 < 41; omega) (show (setB (S.1 5) n (tellB (S.1 0) n (hasB (matI (mw (S.1 0)))))) (k - 1) = (bI (tellB (S.1 0) n (hasB (matI (mw (S.1 0)))) (k - 1))) from (setB_l (by omega))) dX5_prune_53 ?_
          refine b_ifne (tgt := 61) X dX5_prune_54 (by decide) (fun c_54 => ?_) (fun c_54 => ?_)
          ·
            refine lv_iconst (v := nI 0) hx hb dX5_prune_61 (by decide) ?_
            refine m_zst X hL hW 6 (by decide) rfl (k - 1) rfl (by show k - 1 < 40; omega) rfl dX5_prune_62 (fun H locs hL hW hO1 => ?_)
            have hO := hO.trans hO1
            have hW := MW.cast (S1 := uS (uS (uA (uA (uA S 2 (recP (S.1 2) (S.1 0) st)) 5 (setB (S.1 5) n (tellB (S.1 0) n (hasB (matI (mw (S.1 0))))))) 6 (upd (setD (S.1 6) k n (prB (S.1 0) n)) (k - 1) (nI 0))) 12 (nI (recN st + 1))) 15 (nI 0)) hW ⟨rfl, rfl, rfl, rfl, rfl, rfl, rfl, rfl, rfl, rfl, rfl, rfl, rfl, rfl, rfl, rfl, rfl⟩
            have hW := MW.eqA (k := 6) (f := upd (setD (S.1 6) k n (prB (S.1 0) n)) (k - 1) (nI 0)) (f1 := setD (S.1 6) (k - 1) n (prB (S.1 0) n)) hW (setD_s _ _ hk0 hk (by first | (simp [prB, c_45]; rfl) | (simp [prB, c_45, c_54]; rfl))) rfl (fun h => MW.cast (S1 := uS (uS (uA (uA (uA S 2 (recP (S.1 2) (S.1 0) st)) 5 (setB (S.1 5) n (tellB (S.1 0) n (hasB (matI (mw (S.1 0))))))) 6 (setD (S.1 6) (k - 1) n (prB (S.1 0) n))) 12 (nI (recN st + 1))) 15 (nI 0)) h ⟨rfl, rfl, rfl, rfl, rfl, rfl, rfl, rfl, rfl, rfl, rfl, rfl, rfl, rfl, rfl, rfl, rfl⟩)
            refine lv_iinc (v := (nI (k - 1) - nI 1)) (lv' := [(2, .int _), (0, .ref _), (1, .int _)]) hx hb dX5_prune_63 hl (k := 2) rfl (r_dec1 hk0) (by decide) rfl (fun ls hl => ?_)
            refine lv_goto (tgt := 31) hx hb dX5_prune_66 (by decide) ?_
            exact ih31 (k - 1) (by omega) (by omega) _ hW hO _ hL ls (lv_sub hl [1, 2, 0] rfl)
          ·
            refine lv_iconst (v := nI 1) hx hb dX5_prune_57 (by decide) ?_
            refine lv_goto (tgt := 62) hx hb dX5_prune_58 (by decide) ?_
            refine m_zst X hL hW 6 (by decide) rfl (k - 1) rfl (by show k - 1 < 40; omega) rfl dX5_prune_62 (fun H locs hL hW hO1 => ?_)
            have hO := hO.trans hO1
            have hW := MW.cast (S1 := uS (uS (uA (uA (uA S 2 (recP (S.1 2) (S.1 0) st)) 5 (setB (S.1 5) n (tellB (S.1 0) n (hasB (matI (mw (S.1 0))))))) 6 (upd (setD (S.1 6) k n (prB (S.1 0) n)) (k - 1) (nI 1))) 12 (nI (recN st + 1))) 15 (nI 0)) hW ⟨rfl, rfl, rfl, rfl, rfl, rfl, rfl, rfl, rfl, rfl, rfl, rfl, rfl, rfl, rfl, rfl, rfl⟩
            have hW := MW.eqA (k := 6) (f := upd (setD (S.1 6) k n (prB (S.1 0) n)) (k - 1) (nI 1)) (f1 := setD (S.1 6) (k - 1) n (prB (S.1 0) n)) hW (setD_s _ _ hk0 hk (by first | (simp [prB, c_45]; rfl) | (simp [prB, c_45, c_54]; rfl))) rfl (fun h => MW.cast (S1 := uS (uS (uA (uA (uA S 2 (recP (S.1 2) (S.1 0) st)) 5 (setB (S.1 5) n (tellB (S.1 0) n (hasB (matI (mw (S.1 0))))))) 6 (setD (S.1 6) (k - 1) n (prB (S.1 0) n))) 12 (nI (recN st + 1))) 15 (nI 0)) h ⟨rfl, rfl, rfl, rfl, rfl, rfl, rfl, rfl, rfl, rfl, rfl, rfl, rfl, rfl, rfl, rfl, rfl⟩)
            refine lv_iinc (v := (nI (k - 1) - nI 1)) (lv' := [(2, .int _), (0, .ref _), (1, .int _)]) hx hb dX5_prune_63 hl (k := 2) rfl (r_dec1 hk0) (by decide) rfl (fun ls hl => ?_)
            refine lv_goto (tgt := 31) hx hb dX5_prune_66 (by decide) ?_
            exact ih31 (k - 1) (by omega) (by omega) _ hW hO _ hL ls (lv_sub hl [1, 2, 0] rfl)
  exact L31 (n + 1) n (by omega) (by omega) _ (MW.cast hW ⟨rfl, rfl, rfl, rfl, rfl, rfl, (setD_n (S.1 6) n (prB (S.1 0) n)).symm, rfl, rfl, rfl, rfl, rfl, rfl, rfl, rfl, rfl, rfl⟩) hO _ hL ls (lv_sub hl [2, 1, 0] rfl)
theorem vb_X5_prune : VB yX5_prune cX5_prune 3 (some .int) 0 := ⟨q1924, q1925, q111, q1926, ⟨by decide, by decide, by decide +kernel⟩⟩

set_option maxRecDepth 100000 in
set_option maxHeartbeats 4000000 in
theorem ct_X5_layerByPeeling (l : Launch) (g : GT) (o n : Nat) (S : MS) (i : Int32) (hN : S.1 0 160 = nI n) (hn : n ≤ 40) (hR : RO (S.1 0) n) : Ct l g yX5_layerByPeeling cX5_layerByPeeling 2 (some .int) 8 0 0 [.ref o, .int i] (MW g o S) (fun r H H1 => ∃ S1, AP S1 (s_one S n i (fun i => nI (LY (S.1 0) n i))) r ∧ MW g o S1 H1 ∧ Off o H H1) := by
  refine Ct.of (by decide) (Nat.le_of_ble_eq_true rfl) ?_
  intro p e s m args below meth c X hP ls hl
  have hx := X.1
  have hb := X.2.1
  have hKV := X.2.2.2.2.2.2.2.1.1
  have hL : ∀ q ∈ ([] : List Loc), gLo g ≤ q.base := fun _ h => by cases h
  have hl : lv_has ls 2 [(0, .ref o), (1, .int i)] := hl
  have hW : MW g o S s.heap := hP
  have hO : Off o s.heap s.heap := Off.rfl'
  refine lv_aload_n hx hb dX5_layerByPeeling_0 rfl (lv_at hl 0 rfl) ?_
  refine lv_iconst (v := nI 0) hx hb dX5_layerByPeeling_1 (by decide) ?_
  refine mp_38 X rfl hL hW dX5_layerByPeeling_2 (fun H locs hL hW hO1 => ?_)
  have hO := hO.trans hO1
  have hW := MW.cast (S1 := uS S 15 (nI 0)) hW ⟨rfl, rfl, rfl, rfl, rfl, rfl, rfl, rfl, rfl, rfl, rfl, rfl, rfl, rfl, rfl, rfl, rfl⟩
  refine lv_aload_n hx hb dX5_layerByPeeling_5 rfl (lv_at hl 0 rfl) ?_
  refine lv_iload_n hx hb dX5_layerByPeeling_6 rfl (lv_at hl 1 rfl) ?_
  refine Cp.callV (v := .int (bI (noB n i))) (ct_X5_isNone l g o n (uS S 15 (nI 0)) i hN hn) X hL hl vb_X5_isNone q1900 (hW.2.1.recv hKV rfl) rfl rfl (Nat.le_of_ble_eq_true rfl) dX5_layerByPeeling_7 ⟨Nat.le_of_ble_eq_true rfl, Nat.le_of_ble_eq_true rfl⟩ (by omega) (by omega) hW (fun locs hL => ?_)
  refine b_ifeq (tgt := 19) X dX5_layerByPeeling_10 (by decide) (fun c_10 => ?_) (fun c_10 => ?_)
  ·
    obtain ⟨hic, hil⟩ := noB_nat hn c_10
    refine lv_aload_n hx hb dX5_layerByPeeling_19 rfl (lv_at hl 0 rfl) ?_
    refine Ct.callV (ct_X5_peel l g o n (uS S 15 (nI 0)) hN hn hR) X hL hl vb_X5_peel q2135 (hW.2.1.recv hKV rfl) rfl rfl (Nat.le_of_ble_eq_true rfl) dX5_layerByPeeling_20 ⟨Nat.le_of_ble_eq_true rfl, Nat.le_of_ble_eq_true rfl⟩ (by omega) (by omega) hW (fun r H1 locs hL hp => ?_)
    obtain ⟨rfl, hW, hO1⟩ := hp
    have hO := hO.trans hO1
    have hW := MW.cast (S1 := uS (uA S 7 (setI (S.1 7) n (fun k => nI (LY (S.1 0) n k)))) 15 (nI 0)) hW ⟨rfl, rfl, rfl, rfl, rfl, rfl, rfl, rfl, rfl, rfl, rfl, rfl, rfl, rfl, rfl, rfl, rfl⟩
    refine W.stk (w := (nI (maxN (LY (S.1 0) n) n))) rfl ?_
    refine lv_pop hx hb dX5_layerByPeeling_23 rfl ?_
    refine lv_aload_n hx hb dX5_layerByPeeling_24 rfl (lv_at hl 0 rfl) ?_
    refine mg_32 X rfl hW dX5_layerByPeeling_25 ?_
    refine lv_iload_n hx hb dX5_layerByPeeling_28 rfl (lv_at hl 1 rfl) ?_
    refine W.stk (w := (nI i.toNatClampNeg)) hic ?_
    refine m_ld (v := (nI (LY (S.1 0) n i.toNatClampNeg))) X hW 7 (by decide) rfl i.toNatClampNeg rfl (by show i.toNatClampNeg < 40; omega) (show (setI (S.1 7) n (fun k => nI (LY (S.1 0) n k))) i.toNatClampNeg = (nI (LY (S.1 0) n i.toNatClampNeg)) from (setI_l (by omega))) dX5_layerByPeeling_29 ?_
    exact r_iret X hL rfl rfl dX5_layerByPeeling_30 (by omega) (by omega) ⟨uS (uA S 7 (setI (S.1 7) n (fun k => nI (LY (S.1 0) n k)))) 15 (nI 0), AP.mk (t := 0) (v := some (.int (nI (LY (S.1 0) n i.toNatClampNeg)))) (X := S) (by simp [s_one, x_, q_, vI, bI_T, bI_F, c_10]) ⟨rfl, rfl, rfl, rfl, rfl, rfl, rfl, rfl⟩ rfl rfl, hW, hO⟩
  ·
    refine lv_aload_n hx hb dX5_layerByPeeling_13 rfl (lv_at hl 0 rfl) ?_
    refine lv_iconst (v := nI 1) hx hb dX5_layerByPeeling_14 (by decide) ?_
    refine Ct.callV (ct_X5_fails l g o (uS S 15 (nI 0)) (nI 1) ) X hL hl vb_X5_fails q1904 (hW.2.1.recv hKV rfl) rfl rfl (Nat.le_of_ble_eq_true rfl) dX5_layerByPeeling_15 ⟨Nat.le_of_ble_eq_true rfl, Nat.le_of_ble_eq_true rfl⟩ (by omega) (by omega) hW (fun r H1 locs hL hp => ?_)
    obtain ⟨rfl, hW, hO1⟩ := hp
    have hO := hO.trans hO1
    have hW := MW.cast (S1 := uS S 15 (nI 1)) hW ⟨rfl, rfl, rfl, rfl, rfl, rfl, rfl, rfl, rfl, rfl, rfl, rfl, rfl, rfl, rfl, rfl, rfl⟩
    refine W.stk (w := (nI 0)) rfl ?_
    exact r_iret X hL rfl rfl dX5_layerByPeeling_18 (by omega) (by omega) ⟨uS S 15 (nI 1), AP.mk (t := 1) (v := some (.int (nI 0))) (X := S) (by simp [s_one, x_, q_, vI, bI_T, bI_F, c_10]) ⟨rfl, rfl, rfl, rfl, rfl, rfl, rfl, rfl⟩ rfl rfl, hW, hO⟩
theorem vb_X5_layerByPeeling : VB yX5_layerByPeeling cX5_layerByPeeling 2 (some .int) 1 := ⟨q2132, q2133, q111, q2134, ⟨by decide, by decide, by decide +kernel⟩⟩

set_option maxRecDepth 100000 in
set_option maxHeartbeats 4000000 in
theorem ct_X5_layerByRows (l : Launch) (g : GT) (o n : Nat) (S : MS) (i : Int32) (hN : S.1 0 160 = nI n) (hn : n ≤ 40) (hR : RO (S.1 0) n) : Ct l g yX5_layerByRows cX5_layerByRows 2 (some .int) 9 0 0 [.ref o, .int i] (MW g o S) (fun r H H1 => ∃ S1, AP S1 (s_one S n i (fun i => nI (LY (S.1 0) n i))) r ∧ MW g o S1 H1 ∧ Off o H H1) := by
  refine Ct.of (by decide) (Nat.le_of_ble_eq_true rfl) ?_
  intro p e s m args below meth c X hP ls hl
  have hx := X.1
  have hb := X.2.1
  have hKV := X.2.2.2.2.2.2.2.1.1
  have hL : ∀ q ∈ ([] : List Loc), gLo g ≤ q.base := fun _ h => by cases h
  have hl : lv_has ls 2 [(0, .ref o), (1, .int i)] := hl
  have hW : MW g o S s.heap := hP
  have hO : Off o s.heap s.heap := Off.rfl'
  refine lv_aload_n hx hb dX5_layerByRows_0 rfl (lv_at hl 0 rfl) ?_
  refine lv_iload_n hx hb dX5_layerByRows_1 rfl (lv_at hl 1 rfl) ?_
  refine Ct.callV (ct_X5_layerByPeeling l g o n S i hN hn hR) X hL hl vb_X5_layerByPeeling q2143 (hW.2.1.recv hKV rfl) rfl rfl (Nat.le_of_ble_eq_true rfl) dX5_layerByRows_2 ⟨Nat.le_of_ble_eq_true rfl, Nat.le_of_ble_eq_true rfl⟩ (by omega) (by omega) hW (fun r H1 locs hL hp => ?_)
  obtain ⟨S1, ⟨h1, h2, h3⟩, hW, hO1⟩ := hp
  obtain ⟨v, hv⟩ : ∃ v, (s_one S n i (fun i => nI (LY (S.1 0) n i))).2.1 = some (.int v) := by unfold s_one; (repeat first | exact ⟨_, rfl⟩ | split)
  rw [hv] at h3
  subst h3
  exact r_iret X hL rfl rfl dX5_layerByRows_5 (by omega) (by omega) ⟨S1, ⟨h1, h2, hv.symm⟩, hW, hO.trans hO1⟩
theorem vb_X5_layerByRows : VB yX5_layerByRows cX5_layerByRows 2 (some .int) 1 := ⟨q2140, q2141, q111, q2142, ⟨by decide, by decide, by decide +kernel⟩⟩

set_option maxRecDepth 100000 in
set_option maxHeartbeats 4000000 in
theorem ct_X5_layers (l : Launch) (g : GT) (o n : Nat) (S : MS) (hN : S.1 0 160 = nI n) (hn : n ≤ 40) (hR : RO (S.1 0) n) : Ct l g yX5_layers cX5_layers 1 (some .int) 8 0 0 [.ref o] (MW g o S) (fun r H H1 => ∃ S1, AP S1 (q_ S (nI (maxN (LY (S.1 0) n) n))) r ∧ MW g o S1 H1 ∧ Off o H H1) := by
  refine Ct.of (by decide) (Nat.le_of_ble_eq_true rfl) ?_
  intro p e s m args below meth c X hP ls hl
  have hx := X.1
  have hb := X.2.1
  have hKV := X.2.2.2.2.2.2.2.1.1
  have hL : ∀ q ∈ ([] : List Loc), gLo g ≤ q.base := fun _ h => by cases h
  have hl : lv_has ls 1 [(0, .ref o)] := hl
  have hW : MW g o S s.heap := hP
  have hO : Off o s.heap s.heap := Off.rfl'
  refine lv_aload_n hx hb dX5_layers_0 rfl (lv_at hl 0 rfl) ?_
  refine lv_iconst (v := nI 0) hx hb dX5_layers_1 (by decide) ?_
  refine mp_38 X rfl hL hW dX5_layers_2 (fun H locs hL hW hO1 => ?_)
  have hO := hO.trans hO1
  have hW := MW.cast (S1 := uS S 15 (nI 0)) hW ⟨rfl, rfl, rfl, rfl, rfl, rfl, rfl, rfl, rfl, rfl, rfl, rfl, rfl, rfl, rfl, rfl, rfl⟩
  refine lv_aload_n hx hb dX5_layers_5 rfl (lv_at hl 0 rfl) ?_
  refine Ct.callV (ct_X5_peel l g o n (uS S 15 (nI 0)) hN hn hR) X hL hl vb_X5_peel q2135 (hW.2.1.recv hKV rfl) rfl rfl (Nat.le_of_ble_eq_true rfl) dX5_layers_6 ⟨Nat.le_of_ble_eq_true rfl, Nat.le_of_ble_eq_true rfl⟩ (by omega) (by omega) hW (fun r H1 locs hL hp => ?_)
  obtain ⟨rfl, hW, hO1⟩ := hp
  have hO := hO.trans hO1
  have hW := MW.cast (S1 := uS (uA S 7 (setI (S.1 7) n (fun k => nI (LY (S.1 0) n k)))) 15 (nI 0)) hW ⟨rfl, rfl, rfl, rfl, rfl, rfl, rfl, rfl, rfl, rfl, rfl, rfl, rfl, rfl, rfl, rfl, rfl⟩
  refine W.stk (w := (nI (maxN (LY (S.1 0) n) n))) rfl ?_
  exact r_iret X hL rfl rfl dX5_layers_9 (by omega) (by omega) ⟨uS (uA S 7 (setI (S.1 7) n (fun k => nI (LY (S.1 0) n k)))) 15 (nI 0), AP.mk (t := 0) (v := some (.int (nI (maxN (LY (S.1 0) n) n)))) (X := S) rfl ⟨rfl, rfl, rfl, rfl, rfl, rfl, rfl, rfl⟩ rfl rfl, hW, hO⟩
theorem vb_X5_layers : VB yX5_layers cX5_layers 1 (some .int) 0 := ⟨q2145, q2146, q111, q2147, ⟨by decide, by decide, by decide +kernel⟩⟩

set_option maxRecDepth 100000 in
set_option maxHeartbeats 4000000 in
theorem ct_X5_inLayer (l : Launch) (g : GT) (o n : Nat) (S : MS) (x : Int32) (hN : S.1 0 160 = nI n) (hn : n ≤ 40) (hR : RO (S.1 0) n) : Ct l g yX5_inLayer cX5_inLayer 4 (some .int) 8 0 0 [.ref o, .int x] (MW g o S) (fun r H H1 => ∃ S1, AP S1 (s_inL S n x) r ∧ MW g o S1 H1 ∧ Off o H H1) := by
  refine Ct.of (by decide) (Nat.le_of_ble_eq_true rfl) ?_
  intro p e s m args below meth c X hP ls hl
  have hx := X.1
  have hb := X.2.1
  have hKV := X.2.2.2.2.2.2.2.1.1
  have hL : ∀ q ∈ ([] : List Loc), gLo g ≤ q.base := fun _ h => by cases h
  have hl : lv_has ls 4 [(0, .ref o), (1, .int x)] := hl
  have hW : MW g o S s.heap := hP
  have hO : Off o s.heap s.heap := Off.rfl'
  refine lv_aload_n hx hb dX5_inLayer_0 rfl (lv_at hl 0 rfl) ?_
  refine lv_iconst (v := nI 0) hx hb dX5_inLayer_1 (by decide) ?_
  refine mp_38 X rfl hL hW dX5_inLayer_2 (fun H locs hL hW hO1 => ?_)
  have hO := hO.trans hO1
  have hW := MW.cast (S1 := uS S 15 (nI 0)) hW ⟨rfl, rfl, rfl, rfl, rfl, rfl, rfl, rfl, rfl, rfl, rfl, rfl, rfl, rfl, rfl, rfl, rfl⟩
  refine lv_iload_n hx hb dX5_inLayer_5 rfl (lv_at hl 1 rfl) ?_
  refine lv_iconst (v := nI 1) hx hb dX5_inLayer_6 (by decide) ?_
  refine lv_icmp_ge (tgt := 16) hx hb dX5_inLayer_7 (by decide) (fun c_7 => ?_) (fun c_7 => ?_)
  ·
    have c_7 := nlt_of_le c_7
    refine lv_aload_n hx hb dX5_inLayer_16 rfl (lv_at hl 0 rfl) ?_
    refine Ct.callV (ct_X5_peel l g o n (uS S 15 (nI 0)) hN hn hR) X hL hl vb_X5_peel q2135 (hW.2.1.recv hKV rfl) rfl rfl (Nat.le_of_ble_eq_true rfl) dX5_inLayer_17 ⟨Nat.le_of_ble_eq_true rfl, Nat.le_of_ble_eq_true rfl⟩ (by omega) (by omega) hW (fun r H1 locs hL hp => ?_)
    obtain ⟨rfl, hW, hO1⟩ := hp
    have hO := hO.trans hO1
    have hW := MW.cast (S1 := uS (uA S 7 (setI (S.1 7) n (fun k => nI (LY (S.1 0) n k)))) 15 (nI 0)) hW ⟨rfl, rfl, rfl, rfl, rfl, rfl, rfl, rfl, rfl, rfl, rfl, rfl, rfl, rfl, rfl, rfl, rfl⟩
    refine W.stk (w := (nI (maxN (LY (S.1 0) n) n))) rfl ?_
    refine lv_pop hx hb dX5_inLayer_20 rfl ?_
    refine lv_iconst (v := nI 0) hx hb dX5_inLayer_21 (by decide) ?_
    refine lv_istore_n (lv' := [(2, .int _), (0, .ref _), (1, .int _)]) hx hb dX5_inLayer_22 rfl hl (by decide) rfl (fun ls hl => ?_)
    refine lv_iconst (v := nI 0) hx hb dX5_inLayer_23 (by decide) ?_
    refine lv_istore_n (lv' := [(3, .int _), (2, .int _), (0, .ref _), (1, .int _)]) hx hb dX5_inLayer_24 rfl hl (by decide) rfl (fun ls hl => ?_)
    have L25 : ∀ (fuel : Nat) (v k : Nat), n - k < fuel → (v = cnt (fun k => decide (nI (LY (S.1 0) n k) = x)) k) → (k ≤ n) → ∀ (locs : List Loc), (∀ q ∈ locs, gLo g ≤ q.base) → ∀ (ls : Array Slot), lv_has ls 4 [(0, .ref o), (1, .int x), (2, .int (nI v)), (3, .int (nI k))] → W p l e (rmL 8 0 0) s m args below meth c H1 locs 0 0 (MQ below (Qcg (fun r H H1 => ∃ S1, AP S1 (s_inL S n x) r ∧ MW g o S1 H1 ∧ Off o H H1)) args s 0 0 (fre g)) (F0 m 25 ls []) := by
      intro fuel
      induction fuel with
      | zero => intro v k hfu; exact absurd hfu (Nat.not_lt_zero _)
      | succ fuel ih25 =>
        intro v k hfu hv hk  locs hL ls hl
        refine lv_iload_n hx hb dX5_inLayer_25 rfl (lv_at hl 3 rfl) ?_
        refine lv_aload_n hx hb dX5_inLayer_26 rfl (lv_at hl 0 rfl) ?_
        refine mg_7 X rfl hW dX5_inLayer_27 ?_
        refine lv_sipush (v := nI 160) hx hb dX5_inLayer_30 (by decide) ?_
        refine m_ld (v := (nI n)) X hW 0 (by decide) rfl 160 rfl (by decide) (show (S.1 0) 160 = (nI n) from hN) dX5_inLayer_33 ?_
        refine n_icmp_ge (tgt := 61) X dX5_inLayer_34 (by decide) (by omega) (by omega) (fun c_34 => ?_) (fun c_34 => ?_)
        ·
          refine lv_iload_n hx hb dX5_inLayer_61 rfl (lv_at hl 2 rfl) ?_
          exact r_iret X hL rfl rfl dX5_inLayer_62 (by omega) (by omega) ⟨uS (uA S 7 (setI (S.1 7) n (fun k => nI (LY (S.1 0) n k)))) 15 (nI 0), AP.mk (t := 0) (v := some (.int (nI (cnt (fun k => decide (nI (LY (S.1 0) n k) = x)) n)))) (X := S) (by simp [s_inL, x_, q_, vI, bI_T, bI_F, c_7, c_34]) ⟨rfl, rfl, rfl, rfl, rfl, rfl, rfl, rfl⟩ rfl (by rw [hv, show k = n by omega]), hW, hO⟩
        ·
          refine lv_iload_n hx hb dX5_inLayer_37 rfl (lv_at hl 2 rfl) ?_
          refine lv_aload_n hx hb dX5_inLayer_38 rfl (lv_at hl 0 rfl) ?_
          refine mg_32 X rfl hW dX5_inLayer_39 ?_
          refine lv_iload_n hx hb dX5_inLayer_42 rfl (lv_at hl 3 rfl) ?_
          refine m_ld (v := (nI (LY (S.1 0) n k))) X hW 7 (by decide) rfl k rfl (by show k < 40; omega) (show (setI (S.1 7) n (fun k => nI (LY (S.1 0) n k))) k = (nI (LY (S.1 0) n k)) from (setI_l (by omega))) dX5_inLayer_43 ?_
          refine lv_iload_n hx hb dX5_inLayer_44 rfl (lv_at hl 1 rfl) ?_
          refine lv_icmp_ne (tgt := 52) hx hb dX5_inLayer_45 (by decide) (fun c_45 => ?_) (fun c_45 => ?_)
          ·
            refine lv_iconst (v := nI 0) hx hb dX5_inLayer_52 (by decide) ?_
            refine n_iadd X dX5_inLayer_53 ?_
            refine lv_istore_n (lv' := [(2, .int _), (0, .ref _), (1, .int _), (3, .int _)]) hx hb dX5_inLayer_54 rfl hl (by decide) rfl (fun ls hl => ?_)
            refine lv_iinc (v := nI (k + 1)) (lv' := [(3, .int _), (2, .int _), (0, .ref _), (1, .int _)]) hx hb dX5_inLayer_55 hl (k := 3) rfl (nI_iinc _ 1 rfl) (by decide) rfl (fun ls hl => ?_)
            refine lv_goto (tgt := 25) hx hb dX5_inLayer_58 (by decide) ?_
            exact ih25 _ _ (by omega) (by first | (refine cnt_f hv ?_; simp [c_45]; done) | (refine cnt_t hv ?_; simp [c_45]; done) | (refine cnt_t hv ?_; simpa using c_45)) (by omega) _ hL ls (lv_sub hl [2, 3, 1, 0] rfl)
          ·
            refine lv_iconst (v := nI 1) hx hb dX5_inLayer_48 (by decide) ?_
            refine lv_goto (tgt := 53) hx hb dX5_inLayer_49 (by decide) ?_
            refine n_iadd X dX5_inLayer_53 ?_
            refine lv_istore_n (lv' := [(2, .int _), (0, .ref _), (1, .int _), (3, .int _)]) hx hb dX5_inLayer_54 rfl hl (by decide) rfl (fun ls hl => ?_)
            refine lv_iinc (v := nI (k + 1)) (lv' := [(3, .int _), (2, .int _), (0, .ref _), (1, .int _)]) hx hb dX5_inLayer_55 hl (k := 3) rfl (nI_iinc _ 1 rfl) (by decide) rfl (fun ls hl => ?_)
            refine lv_goto (tgt := 25) hx hb dX5_inLayer_58 (by decide) ?_
            exact ih25 _ _ (by omega) (by first | (refine cnt_f hv ?_; simp [c_45]; done) | (refine cnt_t hv ?_; simp [c_45]; done) | (refine cnt_t hv ?_; simpa using c_45)) (by omega) _ hL ls (lv_sub hl [2, 3, 1, 0] rfl)
    exact L25 (n + 1) 0 0 (by omega) rfl (by omega) _ hL ls (lv_sub hl [2, 3, 1, 0] rfl)
  ·
    have c_7 := lt_of_nle c_7
    refine lv_aload_n hx hb dX5_inLayer_10 rfl (lv_at hl 0 rfl) ?_
    refine lv_iconst (v := nI 1) hx hb dX5_inLayer_11 (by decide) ?_
    refine Ct.callV (ct_X5_fails l g o (uS S 15 (nI 0)) (nI 1) ) X hL hl vb_X5_fails q1904 (hW.2.1.recv hKV rfl) rfl rfl (Nat.le_of_ble_eq_true rfl) dX5_inLayer_12 ⟨Nat.le_of_ble_eq_true rfl, Nat.le_of_ble_eq_true rfl⟩ (by omega) (by omega) hW (fun r H1 locs hL hp => ?_)
    obtain ⟨rfl, hW, hO1⟩ := hp
    have hO := hO.trans hO1
    have hW := MW.cast (S1 := uS S 15 (nI 1)) hW ⟨rfl, rfl, rfl, rfl, rfl, rfl, rfl, rfl, rfl, rfl, rfl, rfl, rfl, rfl, rfl, rfl, rfl⟩
    refine W.stk (w := (nI 0)) rfl ?_
    exact r_iret X hL rfl rfl dX5_inLayer_15 (by omega) (by omega) ⟨uS S 15 (nI 1), AP.mk (t := 1) (v := some (.int (nI 0))) (X := S) (by simp [s_inL, x_, q_, vI, bI_T, bI_F, c_7]) ⟨rfl, rfl, rfl, rfl, rfl, rfl, rfl, rfl⟩ rfl rfl, hW, hO⟩
theorem vb_X5_inLayer : VB yX5_inLayer cX5_inLayer 4 (some .int) 1 := ⟨q2149, q2150, q111, q2151, ⟨by decide, by decide, by decide +kernel⟩⟩

set_option maxRecDepth 100000 in
set_option maxHeartbeats 4000000 in
theorem ct_X5_raise (l : Launch) (g : GT) (o n i q : Nat) (S : MS) (hN : S.1 0 160 = nI n) (hn : n ≤ 40) (hR : RO (S.1 0) n) (hi : i < n) (hq : q < 4) : Ct l g yX5_raise cX5_raise 7 (some .int) 7 0 0 [.ref o, .int (nI i), .int (nI q)] (MW g o S) (fun r H H1 => r = some (.int (raI (S.1 0) n i q)) ∧ MW g o (S) H1 ∧ Off o H H1) := by
  refine Ct.of (by decide) (Nat.le_of_ble_eq_true rfl) ?_
  intro p e s m args below meth c X hP ls hl
  have hx := X.1
  have hb := X.2.1
  have hKV := X.2.2.2.2.2.2.2.1.1
  have hL : ∀ q ∈ ([] : List Loc), gLo g ≤ q.base := fun _ h => by cases h
  have hl : lv_has ls 7 [(0, .ref o), (1, .int (nI i)), (2, .int (nI q))] := hl
  have hW : MW g o S s.heap := hP
  have hO : Off o s.heap s.heap := Off.rfl'
  have C31 : ∀ (locs : List Loc), (∀ q ∈ locs, gLo g ≤ q.base) → ∀ (ls : Array Slot), lv_has ls 7 [(0, .ref o), (1, .int (nI i)), (2, .int (nI q)), (3, .int (S.1 0 (4 * i + q))), (4, .int (nI 0)), (5, .int (if mw (S.1 0) q = nI 1 then nI 1 else (-1)))] → W p l e (rmL 7 0 0) s m args below meth c s.heap locs 0 0 (MQ below (Qcg (fun r H H1 => r = some (.int (raI (S.1 0) n i q)) ∧ MW g o (S) H1 ∧ Off o H H1)) args s 0 0 (fre g)) (F0 m 31 ls []) := by
    intro    locs hL ls hl
    refine lv_aload_n hx hb dX5_raise_31 rfl (lv_at hl 0 rfl) ?_
    refine lv_iload_n hx hb dX5_raise_32 rfl (lv_at hl 1 rfl) ?_
    refine Cp.callV (v := .int (bI (isTB (S.1 0) n i))) (ct_X5_isTold l g o n i S hN hn (by omega)) X hL hl vb_X5_isTold q2111 (hW.2.1.recv hKV rfl) rfl rfl (Nat.le_of_ble_eq_true rfl) dX5_raise_33 ⟨Nat.le_of_ble_eq_true rfl, Nat.le_of_ble_eq_true rfl⟩ (by omega) (by omega) hW (fun locs hL => ?_)
    refine lv_istore (lv' := [(6, .int _), (0, .ref _), (1, .int _), (2, .int _), (3, .int _), (4, .int _), (5, .int _)]) hx hb dX5_raise_36 hl (by decide) rfl (fun ls hl => ?_)
    have L38 : ∀ (fuel : Nat) (b : Nat) (z : Bool), 100 - b < fuel → (b ≤ 99) → (z = isTB (upd (S.1 0) (4 * i + q) (S.1 0 (4 * i + q) + (if mw (S.1 0) q = nI 1 then nI 1 else (-1)) * nI b)) n i) → (raI (S.1 0) n i q = raG (S.1 0) n i q (100 - b) b) → ∀ (H : Heap), MW g o (uA S 0 (upd (S.1 0) (4 * i + q) (S.1 0 (4 * i + q) + (if mw (S.1 0) q = nI 1 then nI 1 else (-1)) * nI b))) H → Off o s.heap H → ∀ (locs : List Loc), (∀ q ∈ locs, gLo g ≤ q.base) → ∀ (ls : Array Slot), lv_has ls 7 [(0, .ref o), (1, .int (nI i)), (2, .int (nI q)), (3, .int (S.1 0 (4 * i + q))), (4, .int (nI b)), (5, .int (if mw (S.1 0) q = nI 1 then nI 1 else (-1))), (6, .int (bI z))] → W p l e (rmL 7 0 0) s m args below meth c H locs 0 0 (MQ below (Qcg (fun r H H1 => r = some (.int (raI (S.1 0) n i q)) ∧ MW g o (S) H1 ∧ Off o H H1)) args s 0 0 (fre g)) (F0 m 38 ls []) := by
      intro fuel
      induction fuel with
      | zero => intro b z hfu; exact absurd hfu (Nat.not_lt_zero _)
      | succ fuel ih38 =>
        intro b z hfu hb9 hz hg H hW hO locs hL ls hl
        refine lv_iload hx hb dX5_raise_38 (lv_at hl 6 rfl) ?_
        refine b_ifne (tgt := 110) X dX5_raise_40 (by decide) (fun c_40 => ?_) (fun c_40 => ?_)
        ·
          refine lv_aload_n hx hb dX5_raise_110 rfl (lv_at hl 0 rfl) ?_
          refine mg_7 X rfl hW dX5_raise_111 ?_
          refine lv_iconst (v := nI 0) hx hb dX5_raise_114 (by decide) ?_
          refine lv_iconst (v := nI 4) hx hb dX5_raise_115 (by decide) ?_
          refine lv_iload_n hx hb dX5_raise_116 rfl (lv_at hl 1 rfl) ?_
          refine n_imul X dX5_raise_117 ?_
          refine n_iadd X dX5_raise_118 ?_
          refine lv_iload_n hx hb dX5_raise_119 rfl (lv_at hl 2 rfl) ?_
          refine n_iadd X dX5_raise_120 ?_
          refine lv_iload_n hx hb dX5_raise_121 rfl (lv_at hl 3 rfl) ?_
          refine m_st X hL hW 0 (by decide) rfl (4 * i + q) (congrArg nI (by omega)) (by show 4 * i + q < 179; omega) dX5_raise_122 (fun H locs hL hW hO1 => ?_)
          have hO := hO.trans hO1
          have hW := MW.cast (S1 := uA S 0 (upd (upd (S.1 0) (4 * i + q) (S.1 0 (4 * i + q) + (if mw (S.1 0) q = nI 1 then nI 1 else (-1)) * nI b)) (4 * i + q) (S.1 0 (4 * i + q)))) hW ⟨rfl, rfl, rfl, rfl, rfl, rfl, rfl, rfl, rfl, rfl, rfl, rfl, rfl, rfl, rfl, rfl, rfl⟩
          have hW := MW.eqA (k := 0) (f := upd (upd (S.1 0) (4 * i + q) (S.1 0 (4 * i + q) + (if mw (S.1 0) q = nI 1 then nI 1 else (-1)) * nI b)) (4 * i + q) (S.1 0 (4 * i + q))) (f1 := S.1 0) hW ((upd_upd _ _ _ _).trans (upd_self _ _)) rfl (fun h => MW.cast (S1 := uA S 0 (S.1 0)) h ⟨rfl, rfl, rfl, rfl, rfl, rfl, rfl, rfl, rfl, rfl, rfl, rfl, rfl, rfl, rfl, rfl, rfl⟩)
          refine lv_iload hx hb dX5_raise_123 (lv_at hl 6 rfl) ?_
          refine b_ifeq (tgt := 133) X dX5_raise_125 (by decide) (fun c_125 => ?_) (fun c_125 => ?_)
          ·
            exact absurd (c_40.symm.trans c_125) (by decide)
          ·
            refine lv_iload hx hb dX5_raise_128 (lv_at hl 4 rfl) ?_
            refine lv_goto (tgt := 134) hx hb dX5_raise_130 (by decide) ?_
            exact r_iret X hL rfl rfl dX5_raise_134 (by omega) (by omega) ⟨(by rw [hg, raG_s hb9, ← hz, c_125, if_pos rfl]), (MW.cast hW ⟨rfl, rfl, rfl, rfl, rfl, rfl, rfl, rfl, rfl, rfl, rfl, rfl, rfl, rfl, rfl, rfl, rfl⟩), hO⟩
        ·
          refine lv_iload_n hx hb dX5_raise_43 rfl (lv_at hl 3 rfl) ?_
          refine lv_iload hx hb dX5_raise_44 (lv_at hl 5 rfl) ?_
          refine lv_iload hx hb dX5_raise_46 (lv_at hl 4 rfl) ?_
          refine lv_iconst (v := nI 1) hx hb dX5_raise_48 (by decide) ?_
          refine n_iadd X dX5_raise_49 ?_
          refine lv_imul hx hb dX5_raise_50 ?_
          refine lv_iadd hx hb dX5_raise_51 ?_
          refine lv_aload_n hx hb dX5_raise_52 rfl (lv_at hl 0 rfl) ?_
          refine mg_7 X rfl hW dX5_raise_53 ?_
          refine lv_sipush (v := nI 165) hx hb dX5_raise_56 (by decide) ?_
          refine lv_iload_n hx hb dX5_raise_59 rfl (lv_at hl 2 rfl) ?_
          refine n_iadd X dX5_raise_60 ?_
          refine m_ld (v := (S.1 0 (165 + q))) X hW 0 (by decide) rfl (165 + q) rfl (by show 165 + q < 179; omega) (show (upd (S.1 0) (4 * i + q) (S.1 0 (4 * i + q) + (if mw (S.1 0) q = nI 1 then nI 1 else (-1)) * nI b)) (165 + q) = (S.1 0 (165 + q)) from (upd_n _ _ (by omega))) dX5_raise_61 ?_
          refine lv_aload_n hx hb dX5_raise_62 rfl (lv_at hl 0 rfl) ?_
          refine mg_7 X rfl hW dX5_raise_63 ?_
          refine lv_sipush (v := nI 169) hx hb dX5_raise_66 (by decide) ?_
          refine lv_iload_n hx hb dX5_raise_69 rfl (lv_at hl 2 rfl) ?_
          refine n_iadd X dX5_raise_70 ?_
          refine m_ld (v := (S.1 0 (169 + q))) X hW 0 (by decide) rfl (169 + q) rfl (by show 169 + q < 179; omega) (show (upd (S.1 0) (4 * i + q) (S.1 0 (4 * i + q) + (if mw (S.1 0) q = nI 1 then nI 1 else (-1)) * nI b)) (169 + q) = (S.1 0 (169 + q)) from (upd_n _ _ (by omega))) dX5_raise_71 ?_
          refine Cp.callS (v := .int (bI (inB ((S.1 0 (4 * i + q)) + ((if mw (S.1 0) q = nI 1 then nI 1 else (-1)) * (nI (b + 1)))) (S.1 0 (165 + q)) (S.1 0 (169 + q))))) (ct_X5_in l g ((S.1 0 (4 * i + q)) + ((if mw (S.1 0) q = nI 1 then nI 1 else (-1)) * (nI (b + 1)))) (S.1 0 (165 + q)) (S.1 0 (169 + q)) ) X hL hl sb_X5_in q1885 rfl rfl (Nat.le_of_ble_eq_true rfl) dX5_raise_72 ⟨Nat.le_of_ble_eq_true rfl, Nat.le_of_ble_eq_true rfl⟩ (by omega) (by omega) trivial (fun locs hL => ?_)
          refine b_ifeq (tgt := 110) X dX5_raise_75 (by decide) (fun c_75 => ?_) (fun c_75 => ?_)
          ·
            refine lv_aload_n hx hb dX5_raise_110 rfl (lv_at hl 0 rfl) ?_
            refine mg_7 X rfl hW dX5_raise_111 ?_
            refine lv_iconst (v := nI 0) hx hb dX5_raise_114 (by decide) ?_
            refine lv_iconst (v := nI 4) hx hb dX5_raise_115 (by decide) ?_
            refine lv_iload_n hx hb dX5_raise_116 rfl (lv_at hl 1 rfl) ?_
            refine n_imul X dX5_raise_117 ?_
            refine n_iadd X dX5_raise_118 ?_
            refine lv_iload_n hx hb dX5_raise_119 rfl (lv_at hl 2 rfl) ?_
            refine n_iadd X dX5_raise_120 ?_
            refine lv_iload_n hx hb dX5_raise_121 rfl (lv_at hl 3 rfl) ?_
            refine m_st X hL hW 0 (by decide) rfl (4 * i + q) (congrArg nI (by omega)) (by show 4 * i + q < 179; omega) dX5_raise_122 (fun H locs hL hW hO1 => ?_)
            have hO := hO.trans hO1
            have hW := MW.cast (S1 := uA S 0 (upd (upd (S.1 0) (4 * i + q) (S.1 0 (4 * i + q) + (if mw (S.1 0) q = nI 1 then nI 1 else (-1)) * nI b)) (4 * i + q) (S.1 0 (4 * i + q)))) hW ⟨rfl, rfl, rfl, rfl, rfl, rfl, rfl, rfl, rfl, rfl, rfl, rfl, rfl, rfl, rfl, rfl, rfl⟩
            have hW := MW.eqA (k := 0) (f := upd (upd (S.1 0) (4 * i + q) (S.1 0 (4 * i + q) + (if mw (S.1 0) q = nI 1 then nI 1 else (-1)) * nI b)) (4 * i + q) (S.1 0 (4 * i + q))) (f1 := S.1 0) hW ((upd_upd _ _ _ _).trans (upd_self _ _)) rfl (fun h => MW.cast (S1 := uA S 0 (S.1 0)) h ⟨rfl, rfl, rfl, rfl, rfl, rfl, rfl, rfl, rfl, rfl, rfl, rfl, rfl, rfl, rfl, rfl, rfl⟩)
            refine lv_iload hx hb dX5_raise_123 (lv_at hl 6 rfl) ?_
            refine b_ifeq (tgt := 133) X dX5_raise_125 (by decide) (fun c_125 => ?_) (fun c_125 => ?_)
            ·
              refine lv_iconst (v := (-1)) hx hb dX5_raise_133 (by decide) ?_
              exact r_iret X hL rfl rfl dX5_raise_134 (by omega) (by omega) ⟨(by rw [hg, raG_s hb9, ← hz, c_125, if_neg (by decide)]; exact congrArg (fun v => some (Value.int v)) (if_neg (fun x => Bool.noConfusion (c_75.symm.trans x))).symm), (MW.cast hW ⟨rfl, rfl, rfl, rfl, rfl, rfl, rfl, rfl, rfl, rfl, rfl, rfl, rfl, rfl, rfl, rfl, rfl⟩), hO⟩
            ·
              exact absurd (c_40.symm.trans c_125) (by decide)
          ·
            have hb1 := raise_b hR hi hq hb9 c_75
            refine lv_iinc (v := nI (b + 1)) (lv' := [(4, .int _), (0, .ref _), (1, .int _), (2, .int _), (3, .int _), (5, .int _), (6, .int _)]) hx hb dX5_raise_78 hl (k := 4) rfl (nI_iinc _ 1 rfl) (by decide) rfl (fun ls hl => ?_)
            refine lv_aload_n hx hb dX5_raise_81 rfl (lv_at hl 1 rfl) ?_
            refine mg_7 X rfl hW dX5_raise_82 ?_
            refine lv_iconst (v := nI 0) hx hb dX5_raise_85 (by decide) ?_
            refine lv_iconst (v := nI 4) hx hb dX5_raise_86 (by decide) ?_
            refine lv_iload_n hx hb dX5_raise_87 rfl (lv_at hl 2 rfl) ?_
            refine n_imul X dX5_raise_88 ?_
            refine n_iadd X dX5_raise_89 ?_
            refine lv_iload_n hx hb dX5_raise_90 rfl (lv_at hl 3 rfl) ?_
            refine n_iadd X dX5_raise_91 ?_
            refine lv_iload_n hx hb dX5_raise_92 rfl (lv_at hl 4 rfl) ?_
            refine lv_iload hx hb dX5_raise_93 (lv_at hl 5 rfl) ?_
            refine lv_iload hx hb dX5_raise_95 (lv_at hl 0 rfl) ?_
            refine lv_imul hx hb dX5_raise_97 ?_
            refine lv_iadd hx hb dX5_raise_98 ?_
            refine m_st X hL hW 0 (by decide) rfl (4 * i + q) (congrArg nI (by omega)) (by show 4 * i + q < 179; omega) dX5_raise_99 (fun H locs hL hW hO1 => ?_)
            have hO := hO.trans hO1
            have hW := MW.cast (S1 := uA S 0 (upd (upd (S.1 0) (4 * i + q) (S.1 0 (4 * i + q) + (if mw (S.1 0) q = nI 1 then nI 1 else (-1)) * nI b)) (4 * i + q) ((S.1 0 (4 * i + q)) + ((if mw (S.1 0) q = nI 1 then nI 1 else (-1)) * (nI (b + 1)))))) hW ⟨rfl, rfl, rfl, rfl, rfl, rfl, rfl, rfl, rfl, rfl, rfl, rfl, rfl, rfl, rfl, rfl, rfl⟩
            have hW := MW.eqA (k := 0) (f := upd (upd (S.1 0) (4 * i + q) (S.1 0 (4 * i + q) + (if mw (S.1 0) q = nI 1 then nI 1 else (-1)) * nI b)) (4 * i + q) ((S.1 0 (4 * i + q)) + ((if mw (S.1 0) q = nI 1 then nI 1 else (-1)) * (nI (b + 1))))) (f1 := upd (S.1 0) (4 * i + q) (S.1 0 (4 * i + q) + (if mw (S.1 0) q = nI 1 then nI 1 else (-1)) * nI (b + 1))) hW (upd_upd _ _ _ _) rfl (fun h => MW.cast (S1 := uA S 0 (upd (S.1 0) (4 * i + q) (S.1 0 (4 * i + q) + (if mw (S.1 0) q = nI 1 then nI 1 else (-1)) * nI (b + 1)))) h ⟨rfl, rfl, rfl, rfl, rfl, rfl, rfl, rfl, rfl, rfl, rfl, rfl, rfl, rfl, rfl, rfl, rfl⟩)
            refine lv_aload_n hx hb dX5_raise_100 rfl (lv_at hl 1 rfl) ?_
            refine lv_iload_n hx hb dX5_raise_101 rfl (lv_at hl 2 rfl) ?_
            refine Cp.callV (v := .int (bI (isTB (upd (S.1 0) (4 * i + q) (S.1 0 (4 * i + q) + (if mw (S.1 0) q = nI 1 then nI 1 else (-1)) * nI (b + 1))) n i))) (ct_X5_isTold l g o n i (uA S 0 (upd (S.1 0) (4 * i + q) (S.1 0 (4 * i + q) + (if mw (S.1 0) q = nI 1 then nI 1 else (-1)) * nI (b + 1)))) (show (upd (S.1 0) (4 * i + q) _) 160 = nI n from by rw [upd_n _ _ (by omega)]; exact hN) hn (by omega)) X hL hl vb_X5_isTold q2111 (hW.2.1.recv hKV rfl) rfl rfl (Nat.le_of_ble_eq_true rfl) dX5_raise_102 ⟨Nat.le_of_ble_eq_true rfl, Nat.le_of_ble_eq_true rfl⟩ (by omega) (by omega) hW (fun locs hL => ?_)
            refine lv_istore (lv' := [(6, .int _), (4, .int _), (0, .ref _), (1, .int _), (2, .int _), (3, .int _), (5, .int _)]) hx hb dX5_raise_105 hl (by decide) rfl (fun ls hl => ?_)
            refine lv_goto (tgt := 38) hx hb dX5_raise_107 (by decide) ?_
            exact ih38 (b + 1) (isTB (upd (S.1 0) (4 * i + q) (S.1 0 (4 * i + q) + (if mw (S.1 0) q = nI 1 then nI 1 else (-1)) * nI (b + 1))) n i) (by omega) hb1 rfl (by rw [hg, raG_s hb9, ← hz, c_40, if_neg (by decide)]; exact if_pos c_75) _ hW hO _ hL ls (lv_sub hl [2, 3, 4, 5, 1, 6, 0] rfl)
    exact L38 101 0 (isTB (S.1 0) n i) (by omega) (by omega) (by rw [upd_raise0]) rfl _ (MW.cast hW ⟨(upd_raise0 (S.1 0) (4 * i + q) (if mw (S.1 0) q = nI 1 then nI 1 else (-1))).symm, rfl, rfl, rfl, rfl, rfl, rfl, rfl, rfl, rfl, rfl, rfl, rfl, rfl, rfl, rfl, rfl⟩) hO _ hL ls (lv_sub hl [1, 2, 3, 4, 5, 6, 0] rfl)
  refine lv_aload_n hx hb dX5_raise_0 rfl (lv_at hl 0 rfl) ?_
  refine lv_iload_n hx hb dX5_raise_1 rfl (lv_at hl 1 rfl) ?_
  refine lv_iload_n hx hb dX5_raise_2 rfl (lv_at hl 2 rfl) ?_
  refine Cp.callV (v := .int (S.1 0 (4 * i + q))) (ct_X5_value l g o i q S (by omega) (by omega)) X hL hl vb_X5_value q1919 (hW.2.1.recv hKV rfl) rfl rfl (Nat.le_of_ble_eq_true rfl) dX5_raise_3 ⟨Nat.le_of_ble_eq_true rfl, Nat.le_of_ble_eq_true rfl⟩ (by omega) (by omega) hW (fun locs hL => ?_)
  refine lv_istore_n (lv' := [(3, .int _), (0, .ref _), (1, .int _), (2, .int _)]) hx hb dX5_raise_6 rfl hl (by decide) rfl (fun ls hl => ?_)
  refine lv_iconst (v := nI 0) hx hb dX5_raise_7 (by decide) ?_
  refine lv_istore (lv' := [(4, .int _), (3, .int _), (0, .ref _), (1, .int _), (2, .int _)]) hx hb dX5_raise_8 hl (by decide) rfl (fun ls hl => ?_)
  refine lv_aload_n hx hb dX5_raise_10 rfl (lv_at hl 2 rfl) ?_
  refine mg_7 X rfl hW dX5_raise_11 ?_
  refine lv_sipush (v := nI 161) hx hb dX5_raise_14 (by decide) ?_
  refine lv_iload_n hx hb dX5_raise_17 rfl (lv_at hl 4 rfl) ?_
  refine n_iadd X dX5_raise_18 ?_
  refine m_ld (v := ((S.1 0) (161 + q))) X hW 0 (by decide) rfl (161 + q) rfl (by show 161 + q < 179; omega) rfl dX5_raise_19 ?_
  refine lv_iconst (v := nI 1) hx hb dX5_raise_20 (by decide) ?_
  refine lv_icmp_ne (tgt := 28) hx hb dX5_raise_21 (by decide) (fun c_21 => ?_) (fun c_21 => ?_)
  ·
    refine lv_iconst (v := (-1)) hx hb dX5_raise_28 (by decide) ?_
    refine W.stk (w := (if mw (S.1 0) q = nI 1 then nI 1 else (-1))) (if_neg c_21).symm ?_
    refine lv_istore (lv' := [(5, .int _), (4, .int _), (3, .int _), (0, .ref _), (1, .int _), (2, .int _)]) hx hb dX5_raise_29 hl (by decide) rfl (fun ls hl => ?_)
    exact C31  _ hL ls (lv_sub hl [3, 4, 5, 2, 1, 0] rfl)
  ·
    refine lv_iconst (v := nI 1) hx hb dX5_raise_24 (by decide) ?_
    refine W.stk (w := (if mw (S.1 0) q = nI 1 then nI 1 else (-1))) (if_pos c_21).symm ?_
    refine lv_goto (tgt := 29) hx hb dX5_raise_25 (by decide) ?_
    refine lv_istore (lv' := [(5, .int _), (4, .int _), (3, .int _), (0, .ref _), (1, .int _), (2, .int _)]) hx hb dX5_raise_29 hl (by decide) rfl (fun ls hl => ?_)
    exact C31  _ hL ls (lv_sub hl [3, 4, 5, 2, 1, 0] rfl)
theorem vb_X5_raise : VB yX5_raise cX5_raise 7 (some .int) 2 := ⟨q2201, qs88, q111, q2202, ⟨by decide, by decide, by decide +kernel⟩⟩

set_option maxRecDepth 100000 in
set_option maxHeartbeats 4000000 in
theorem ct_X5_raiseByTrying (l : Launch) (g : GT) (o n : Nat) (S : MS) (i q : Int32) (hN : S.1 0 160 = nI n) (hn : n ≤ 40) (hR : RO (S.1 0) n) : Ct l g yX5_raiseByTrying cX5_raiseByTrying 4 (some .int) 9 0 0 [.ref o, .int i, .int q] (MW g o S) (fun r H H1 => ∃ S1, AP S1 (s_raise S n i q) r ∧ MW g o S1 H1 ∧ Off o H H1) := by
  refine Ct.of (by decide) (Nat.le_of_ble_eq_true rfl) ?_
  intro p e s m args below meth c X hP ls hl
  have hx := X.1
  have hb := X.2.1
  have hKV := X.2.2.2.2.2.2.2.1.1
  have hL : ∀ q ∈ ([] : List Loc), gLo g ≤ q.base := fun _ h => by cases h
  have hl : lv_has ls 4 [(0, .ref o), (1, .int i), (2, .int q)] := hl
  have hW : MW g o S s.heap := hP
  have hO : Off o s.heap s.heap := Off.rfl'
  refine lv_aload_n hx hb dX5_raiseByTrying_0 rfl (lv_at hl 0 rfl) ?_
  refine lv_aload_n hx hb dX5_raiseByTrying_1 rfl (lv_at hl 0 rfl) ?_
  refine lv_iload_n hx hb dX5_raiseByTrying_2 rfl (lv_at hl 1 rfl) ?_
  refine Cp.callV (v := .int (bI (noB n i))) (ct_X5_isNone l g o n S i hN hn) X hL hl vb_X5_isNone q1900 (hW.2.1.recv hKV rfl) rfl rfl (Nat.le_of_ble_eq_true rfl) dX5_raiseByTrying_3 ⟨Nat.le_of_ble_eq_true rfl, Nat.le_of_ble_eq_true rfl⟩ (by omega) (by omega) hW (fun locs hL => ?_)
  refine b_ifne (tgt := 16) X dX5_raiseByTrying_6 (by decide) (fun c_6 => ?_) (fun c_6 => ?_)
  ·
    refine lv_iconst (v := nI 1) hx hb dX5_raiseByTrying_16 (by decide) ?_
    refine lv_goto (tgt := 41) hx hb dX5_raiseByTrying_17 (by decide) ?_
    refine mp_38 X rfl hL hW dX5_raiseByTrying_41 (fun H locs hL hW hO1 => ?_)
    have hO := hO.trans hO1
    have hW := MW.cast (S1 := uS S 15 (nI 1)) hW ⟨rfl, rfl, rfl, rfl, rfl, rfl, rfl, rfl, rfl, rfl, rfl, rfl, rfl, rfl, rfl, rfl, rfl⟩
    refine lv_aload_n hx hb dX5_raiseByTrying_44 rfl (lv_at hl 0 rfl) ?_
    refine mg_38 X rfl hW dX5_raiseByTrying_45 (W.stk (w := (nI 1)) rfl ?_)
    refine n_ifeq (tgt := 53) X dX5_raiseByTrying_48 (by decide) (by omega) (fun c_48 => ?_) (fun c_48 => ?_)
    ·
      exact absurd c_48 (by decide)
    ·
      refine lv_iconst (v := nI 0) hx hb dX5_raiseByTrying_51 (by decide) ?_
      exact r_iret X hL rfl rfl dX5_raiseByTrying_52 (by omega) (by omega) ⟨uS S 15 (nI 1), AP.mk (t := 1) (v := some (.int (nI 0))) (X := S) (by simp [s_raise, x_, q_, vI, noS, c_6]) ⟨rfl, rfl, rfl, rfl, rfl, rfl, rfl, rfl⟩ rfl rfl, hW, hO⟩
  ·
    refine lv_iload_n hx hb dX5_raiseByTrying_9 rfl (lv_at hl 2 rfl) ?_
    refine Cp.callS (v := .int (bI (!inB q (nI 0) (nI 3)))) (ct_X5_isNoSide l g q ) X hL hl sb_X5_isNoSide q1916 rfl rfl (Nat.le_of_ble_eq_true rfl) dX5_raiseByTrying_10 ⟨Nat.le_of_ble_eq_true rfl, Nat.le_of_ble_eq_true rfl⟩ (by omega) (by omega) trivial (fun locs hL => ?_)
    refine b_ifeq (tgt := 20) X dX5_raiseByTrying_13 (by decide) (fun c_13 => ?_) (fun c_13 => ?_)
    ·
      obtain ⟨hic, hil⟩ := noB_nat hn c_6
      obtain ⟨hqc, hql⟩ := noS_nat c_13
      refine lv_aload_n hx hb dX5_raiseByTrying_20 rfl (lv_at hl 0 rfl) ?_
      refine lv_iload_n hx hb dX5_raiseByTrying_21 rfl (lv_at hl 1 rfl) ?_
      refine W.stk (w := (nI i.toNatClampNeg)) hic ?_
      refine Cp.callV (v := .int (bI (cB (S.1 0) i.toNatClampNeg))) (ct_X5_counts l g o i.toNatClampNeg S (by omega)) X hL hl vb_X5_counts q1939 (hW.2.1.recv hKV rfl) rfl rfl (Nat.le_of_ble_eq_true rfl) dX5_raiseByTrying_22 ⟨Nat.le_of_ble_eq_true rfl, Nat.le_of_ble_eq_true rfl⟩ (by omega) (by omega) hW (fun locs hL => ?_)
      refine b_ifeq (tgt := 36) X dX5_raiseByTrying_25 (by decide) (fun c_25 => ?_) (fun c_25 => ?_)
      ·
        refine lv_iconst (v := nI 2) hx hb dX5_raiseByTrying_36 (by decide) ?_
        refine lv_goto (tgt := 41) hx hb dX5_raiseByTrying_37 (by decide) ?_
        refine mp_38 X rfl hL hW dX5_raiseByTrying_41 (fun H locs hL hW hO1 => ?_)
        have hO := hO.trans hO1
        have hW := MW.cast (S1 := uS S 15 (nI 2)) hW ⟨rfl, rfl, rfl, rfl, rfl, rfl, rfl, rfl, rfl, rfl, rfl, rfl, rfl, rfl, rfl, rfl, rfl⟩
        refine lv_aload_n hx hb dX5_raiseByTrying_44 rfl (lv_at hl 0 rfl) ?_
        refine mg_38 X rfl hW dX5_raiseByTrying_45 (W.stk (w := (nI 2)) rfl ?_)
        refine n_ifeq (tgt := 53) X dX5_raiseByTrying_48 (by decide) (by omega) (fun c_48 => ?_) (fun c_48 => ?_)
        ·
          exact absurd c_48 (by decide)
        ·
          refine lv_iconst (v := nI 0) hx hb dX5_raiseByTrying_51 (by decide) ?_
          exact r_iret X hL rfl rfl dX5_raiseByTrying_52 (by omega) (by omega) ⟨uS S 15 (nI 2), AP.mk (t := 2) (v := some (.int (nI 0))) (X := S) (by simp [s_raise, x_, q_, vI, noS, c_6, c_13, c_25]) ⟨rfl, rfl, rfl, rfl, rfl, rfl, rfl, rfl⟩ rfl rfl, hW, hO⟩
      ·
        refine lv_aload_n hx hb dX5_raiseByTrying_28 rfl (lv_at hl 0 rfl) ?_
        refine lv_iload_n hx hb dX5_raiseByTrying_29 rfl (lv_at hl 2 rfl) ?_
        refine W.stk (w := (nI q.toNatClampNeg)) hqc ?_
        refine Cp.callV (v := .int (bI (matB (mw (S.1 0)) q.toNatClampNeg))) (ct_X5_matters l g o q.toNatClampNeg S (by omega)) X hL hl vb_X5_matters q1931 (hW.2.1.recv hKV rfl) rfl rfl (Nat.le_of_ble_eq_true rfl) dX5_raiseByTrying_30 ⟨Nat.le_of_ble_eq_true rfl, Nat.le_of_ble_eq_true rfl⟩ (by omega) (by omega) hW (fun locs hL => ?_)
        refine b_ifne (tgt := 40) X dX5_raiseByTrying_33 (by decide) (fun c_33 => ?_) (fun c_33 => ?_)
        ·
          refine lv_iconst (v := nI 0) hx hb dX5_raiseByTrying_40 (by decide) ?_
          refine mp_38 X rfl hL hW dX5_raiseByTrying_41 (fun H locs hL hW hO1 => ?_)
          have hO := hO.trans hO1
          have hW := MW.cast (S1 := uS S 15 (nI 0)) hW ⟨rfl, rfl, rfl, rfl, rfl, rfl, rfl, rfl, rfl, rfl, rfl, rfl, rfl, rfl, rfl, rfl, rfl⟩
          refine lv_aload_n hx hb dX5_raiseByTrying_44 rfl (lv_at hl 0 rfl) ?_
          refine mg_38 X rfl hW dX5_raiseByTrying_45 (W.stk (w := (nI 0)) rfl ?_)
          refine n_ifeq (tgt := 53) X dX5_raiseByTrying_48 (by decide) (by omega) (fun c_48 => ?_) (fun c_48 => ?_)
          ·
            refine lv_aload_n hx hb dX5_raiseByTrying_53 rfl (lv_at hl 0 rfl) ?_
            refine lv_iload_n hx hb dX5_raiseByTrying_54 rfl (lv_at hl 1 rfl) ?_
            refine W.stk (w := (nI i.toNatClampNeg)) hic ?_
            refine lv_iload_n hx hb dX5_raiseByTrying_55 rfl (lv_at hl 2 rfl) ?_
            refine W.stk (w := (nI q.toNatClampNeg)) hqc ?_
            refine Ct.callV (ct_X5_raise l g o n i.toNatClampNeg q.toNatClampNeg (uS S 15 (nI 0)) hN hn hR (by omega) (by omega)) X hL hl vb_X5_raise q2199 (hW.2.1.recv hKV rfl) rfl rfl (Nat.le_of_ble_eq_true rfl) dX5_raiseByTrying_56 ⟨Nat.le_of_ble_eq_true rfl, Nat.le_of_ble_eq_true rfl⟩ (by omega) (by omega) hW (fun r H1 locs hL hp => ?_)
            obtain ⟨rfl, hW, hO1⟩ := hp
            have hO := hO.trans hO1
            have hW := MW.cast (S1 := uS S 15 (nI 0)) hW ⟨rfl, rfl, rfl, rfl, rfl, rfl, rfl, rfl, rfl, rfl, rfl, rfl, rfl, rfl, rfl, rfl, rfl⟩
            refine W.stk (w := (raI (S.1 0) n i.toNatClampNeg q.toNatClampNeg)) rfl ?_
            refine lv_istore_n (lv' := [(3, .int _), (0, .ref _), (1, .int _), (2, .int _)]) hx hb dX5_raiseByTrying_59 rfl hl (by decide) rfl (fun ls hl => ?_)
            refine lv_iload_n hx hb dX5_raiseByTrying_60 rfl (lv_at hl 0 rfl) ?_
            refine lv_iconst (v := (-1)) hx hb dX5_raiseByTrying_61 (by decide) ?_
            refine lv_icmp_ne (tgt := 73) hx hb dX5_raiseByTrying_62 (by decide) (fun c_62 => ?_) (fun c_62 => ?_)
            ·
              refine lv_iload_n hx hb dX5_raiseByTrying_73 rfl (lv_at hl 0 rfl) ?_
              exact r_iret X hL rfl rfl dX5_raiseByTrying_74 (by omega) (by omega) ⟨uS S 15 (nI 0), AP.mk (t := 0) (v := some (.int (raI (S.1 0) n i.toNatClampNeg q.toNatClampNeg))) (X := S) (by simp [s_raise, x_, q_, vI, noS, c_6, c_13, c_25, c_33, c_62]) ⟨rfl, rfl, rfl, rfl, rfl, rfl, rfl, rfl⟩ rfl rfl, hW, hO⟩
            ·
              refine lv_aload_n hx hb dX5_raiseByTrying_65 rfl (lv_at hl 1 rfl) ?_
              refine lv_iconst (v := nI 2) hx hb dX5_raiseByTrying_66 (by decide) ?_
              refine Ct.callV (ct_X5_fails l g o (uS S 15 (nI 0)) (nI 2) ) X hL hl vb_X5_fails q1904 (hW.2.1.recv hKV rfl) rfl rfl (Nat.le_of_ble_eq_true rfl) dX5_raiseByTrying_67 ⟨Nat.le_of_ble_eq_true rfl, Nat.le_of_ble_eq_true rfl⟩ (by omega) (by omega) hW (fun r H1 locs hL hp => ?_)
              obtain ⟨rfl, hW, hO1⟩ := hp
              have hO := hO.trans hO1
              have hW := MW.cast (S1 := uS S 15 (nI 2)) hW ⟨rfl, rfl, rfl, rfl, rfl, rfl, rfl, rfl, rfl, rfl, rfl, rfl, rfl, rfl, rfl, rfl, rfl⟩
              refine W.stk (w := (nI 0)) rfl ?_
              refine lv_goto (tgt := 74) hx hb dX5_raiseByTrying_70 (by decide) ?_
              exact r_iret X hL rfl rfl dX5_raiseByTrying_74 (by omega) (by omega) ⟨uS S 15 (nI 2), AP.mk (t := 2) (v := some (.int (nI 0))) (X := S) (by simp [s_raise, x_, q_, vI, noS, c_6, c_13, c_25, c_33, c_62]) ⟨rfl, rfl, rfl, rfl, rfl, rfl, rfl, rfl⟩ rfl rfl, hW, hO⟩
          ·
            exact absurd c_48 (by decide)
        ·
          refine lv_iconst (v := nI 2) hx hb dX5_raiseByTrying_36 (by decide) ?_
          refine lv_goto (tgt := 41) hx hb dX5_raiseByTrying_37 (by decide) ?_
          refine mp_38 X rfl hL hW dX5_raiseByTrying_41 (fun H locs hL hW hO1 => ?_)
          have hO := hO.trans hO1
          have hW := MW.cast (S1 := uS S 15 (nI 2)) hW ⟨rfl, rfl, rfl, rfl, rfl, rfl, rfl, rfl, rfl, rfl, rfl, rfl, rfl, rfl, rfl, rfl, rfl⟩
          refine lv_aload_n hx hb dX5_raiseByTrying_44 rfl (lv_at hl 0 rfl) ?_
          refine mg_38 X rfl hW dX5_raiseByTrying_45 (W.stk (w := (nI 2)) rfl ?_)
          refine n_ifeq (tgt := 53) X dX5_raiseByTrying_48 (by decide) (by omega) (fun c_48 => ?_) (fun c_48 => ?_)
          ·
            exact absurd c_48 (by decide)
          ·
            refine lv_iconst (v := nI 0) hx hb dX5_raiseByTrying_51 (by decide) ?_
            exact r_iret X hL rfl rfl dX5_raiseByTrying_52 (by omega) (by omega) ⟨uS S 15 (nI 2), AP.mk (t := 2) (v := some (.int (nI 0))) (X := S) (by simp [s_raise, x_, q_, vI, noS, c_6, c_13, c_25, c_33]) ⟨rfl, rfl, rfl, rfl, rfl, rfl, rfl, rfl⟩ rfl rfl, hW, hO⟩
    ·
      refine lv_iconst (v := nI 1) hx hb dX5_raiseByTrying_16 (by decide) ?_
      refine lv_goto (tgt := 41) hx hb dX5_raiseByTrying_17 (by decide) ?_
      refine mp_38 X rfl hL hW dX5_raiseByTrying_41 (fun H locs hL hW hO1 => ?_)
      have hO := hO.trans hO1
      have hW := MW.cast (S1 := uS S 15 (nI 1)) hW ⟨rfl, rfl, rfl, rfl, rfl, rfl, rfl, rfl, rfl, rfl, rfl, rfl, rfl, rfl, rfl, rfl, rfl⟩
      refine lv_aload_n hx hb dX5_raiseByTrying_44 rfl (lv_at hl 0 rfl) ?_
      refine mg_38 X rfl hW dX5_raiseByTrying_45 (W.stk (w := (nI 1)) rfl ?_)
      refine n_ifeq (tgt := 53) X dX5_raiseByTrying_48 (by decide) (by omega) (fun c_48 => ?_) (fun c_48 => ?_)
      ·
        exact absurd c_48 (by decide)
      ·
        refine lv_iconst (v := nI 0) hx hb dX5_raiseByTrying_51 (by decide) ?_
        exact r_iret X hL rfl rfl dX5_raiseByTrying_52 (by omega) (by omega) ⟨uS S 15 (nI 1), AP.mk (t := 1) (v := some (.int (nI 0))) (X := S) (by simp [s_raise, x_, q_, vI, noS, c_6, c_13]) ⟨rfl, rfl, rfl, rfl, rfl, rfl, rfl, rfl⟩ rfl rfl, hW, hO⟩
theorem vb_X5_raiseByTrying : VB yX5_raiseByTrying cX5_raiseByTrying 4 (some .int) 2 := ⟨q2196, q2197, q111, q2198, ⟨by decide, by decide, by decide +kernel⟩⟩

set_option maxRecDepth 100000 in
set_option maxHeartbeats 4000000 in
theorem ct_X5_raiseByBeaters (l : Launch) (g : GT) (o n : Nat) (S : MS) (i q : Int32) (hN : S.1 0 160 = nI n) (hn : n ≤ 40) (hR : RO (S.1 0) n) : Ct l g yX5_raiseByBeaters cX5_raiseByBeaters 3 (some .int) 10 0 0 [.ref o, .int i, .int q] (MW g o S) (fun r H H1 => ∃ S1, AP S1 (s_raise S n i q) r ∧ MW g o S1 H1 ∧ Off o H H1) := by
  refine Ct.of (by decide) (Nat.le_of_ble_eq_true rfl) ?_
  intro p e s m args below meth c X hP ls hl
  have hx := X.1
  have hb := X.2.1
  have hKV := X.2.2.2.2.2.2.2.1.1
  have hL : ∀ q ∈ ([] : List Loc), gLo g ≤ q.base := fun _ h => by cases h
  have hl : lv_has ls 3 [(0, .ref o), (1, .int i), (2, .int q)] := hl
  have hW : MW g o S s.heap := hP
  have hO : Off o s.heap s.heap := Off.rfl'
  refine lv_aload_n hx hb dX5_raiseByBeaters_0 rfl (lv_at hl 0 rfl) ?_
  refine lv_iload_n hx hb dX5_raiseByBeaters_1 rfl (lv_at hl 1 rfl) ?_
  refine lv_iload_n hx hb dX5_raiseByBeaters_2 rfl (lv_at hl 2 rfl) ?_
  refine Ct.callV (ct_X5_raiseByTrying l g o n S i q hN hn hR) X hL hl vb_X5_raiseByTrying q2207 (hW.2.1.recv hKV rfl) rfl rfl (Nat.le_of_ble_eq_true rfl) dX5_raiseByBeaters_3 ⟨Nat.le_of_ble_eq_true rfl, Nat.le_of_ble_eq_true rfl⟩ (by omega) (by omega) hW (fun r H1 locs hL hp => ?_)
  obtain ⟨S1, ⟨h1, h2, h3⟩, hW, hO1⟩ := hp
  obtain ⟨v, hv⟩ : ∃ v, (s_raise S n i q).2.1 = some (.int v) := by unfold s_raise; (repeat first | exact ⟨_, rfl⟩ | split)
  rw [hv] at h3
  subst h3
  exact r_iret X hL rfl rfl dX5_raiseByBeaters_6 (by omega) (by omega) ⟨S1, ⟨h1, h2, hv.symm⟩, hW, hO.trans hO1⟩
theorem vb_X5_raiseByBeaters : VB yX5_raiseByBeaters cX5_raiseByBeaters 3 (some .int) 2 := ⟨q2204, q2205, q111, q2206, ⟨by decide, by decide, by decide +kernel⟩⟩
