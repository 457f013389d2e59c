/-! the model's walks, fifth part: what its calls answer -/
/-- all but scratch is the same -/
def Sc (S S1 : MS) : Prop := S1.1 0 = S.1 0 ∧ S1.1 2 = S.1 2 ∧ S1.1 3 = S.1 3 ∧ S1.1 4 = S.1 4 ∧ S1.2.1 10 = S.2.1 10 ∧ S1.2.1 11 = S.2.1 11 ∧ S1.2.1 12 = S.2.1 12 ∧ S1.2.1 13 = S.2.1 13
def AP (S1 : MS) (x : Nat × Option Value × MS) (r : Option Value) : Prop := Sc x.2.2 S1 ∧ S1.2.1 15 = nI x.1 ∧ r = x.2.1
theorem AP.mk {S1 X : MS} {x : Nat × Option Value × MS} {t : Nat} {v r : Option Value} (h : x = (t, v, X)) (hs : Sc X S1) (ht : S1.2.1 15 = nI t) (hr : r = v) : AP S1 x r := by subst h; exact ⟨hs, ht, hr⟩
def vI (x : Int32) : Option Value := some (.int x)
/-- a new row, the old one kept -/
def upR (S : MS) (st : Nat) (f : Nat → Int32) : MS := uS (uA (uA S 0 f) 2 (recP (S.1 2) (S.1 0) st)) 12 (nI (recN st + 1))
def q_ (S : MS) (v : Int32) : Nat × Option Value × MS := (0, vI v, S)
def x_ (S : MS) (t : Nat) : Nat × Option Value × MS := (t, vI (nI 0), S)
def s_add (S : MS) (n st : Nat) (a b q t : Int32) : Nat × Option Value × MS := if noVs a b q t then x_ S 1 else if n = 40 then x_ S 2 else (0, vI (nI n), upR S st (addR (S.1 0) n a b q t))
def noS (x : Int32) : Bool := !inB x (nI 0) (nI 3)
def noV (x : Int32) : Bool := !inB x (nI 0) (nI 99)
def s_one (S : MS) (n : Nat) (i : Int32) (v : Nat → Int32) : Nat × Option Value × MS := if noB n i then x_ S 1 else q_ S (v i.toNatClampNeg)
theorem inB_nat {v : Int32} {a b : Nat} (ha : a < 2 ^ 31) (hb : b < 2 ^ 31) (h : inB v (nI a) (nI b) = true) : v = nI v.toNatClampNeg ∧ a ≤ v.toNatClampNeg ∧ v.toNatClampNeg ≤ b := by
  unfold inB at h
  rw [Bool.and_eq_true, decide_eq_true_eq, decide_eq_true_eq] at h
  have h0 : ¬ v < 0 := fun q => by
    have h1 := h.1
    have h2 := nI_pos' ha
    rw [Int32.lt_iff_toInt_lt] at q
    rw [Int32.le_iff_toInt_le] at h1
    have h2 : (0 : Int32).toInt ≤ (nI a).toInt := Int32.le_iff_toInt_le.mp h2
    omega
  obtain ⟨j, hl0, hj⟩ := nI_of h0
  have hcl : v.toNatClampNeg = j := nI_cl hl0 hj
  have hv : v = nI v.toNatClampNeg := by rw [hcl]; exact hj
  have hl : v.toNatClampNeg < 2 ^ 31 := by rw [hcl]; exact hl0
  rw [hv] at h
  exact ⟨hv, (nI_leI ha hl).mp h.1, (nI_leI hl hb).mp h.2⟩
theorem noB_nat {n : Nat} {v : Int32} (hn : n ≤ 40) (h : noB n v = false) : v = nI v.toNatClampNeg ∧ v.toNatClampNeg < n := by
  unfold noB at h
  have h : inB v (nI 0) (nI n - nI 1) = true := by simpa using h
  rcases Nat.eq_zero_or_pos n with rfl | hp
  · unfold inB at h
    rw [Bool.and_eq_true, decide_eq_true_eq, decide_eq_true_eq] at h
    exact absurd (Int32.le_trans h.1 h.2) (by decide)
  · rw [pk_sub hp] at h
    obtain ⟨h1, -, h2⟩ := inB_nat (by omega) (by omega) h
    exact ⟨h1, by omega⟩
theorem noS_nat {v : Int32} (h : noS v = false) : v = nI v.toNatClampNeg ∧ v.toNatClampNeg < 4 := by
  have h : inB v (nI 0) (nI 3) = true := by simpa [noS] using h
  obtain ⟨h1, -, h2⟩ := inB_nat (by omega) (by omega) h
  exact ⟨h1, by omega⟩

set_option maxRecDepth 100000 in
set_option maxHeartbeats 4000000 in
theorem ct_X5_add (l : Launch) (g : GT) (o n st : Nat) (S : MS) (a b q t : Int32) (hN : S.1 0 160 = nI n) (hn : n ≤ 40) (hst : S.2.1 12 = nI st) (hs6 : st ≤ 6) : Ct l g yX5_add cX5_add 5 (some .int) 4 0 0 [.ref o, .int a, .int b, .int q, .int t] (MW g o S) (fun r H H1 => ∃ S1, AP S1 (s_add S n st a b q t) r ∧ MW g o S1 H1 ∧ Off o H H1) := by
  refine Ct.of (by decide) (Nat.le_of_ble_eq_true rfl) ?_
  intro p e s m args below meth c X hP ls hl
  have hx := X.1
  have hb := X.2.1
  have hKV := X.2.2.2.2.2.2.2.1.1
  have hL : ∀ q ∈ ([] : List Loc), gLo g ≤ q.base := fun _ h => by cases h
  have hl : lv_has ls 5 [(0, .ref o), (1, .int a), (2, .int b), (3, .int q), (4, .int t)] := hl
  have hW : MW g o S s.heap := hP
  have hO : Off o s.heap s.heap := Off.rfl'
  refine lv_aload_n hx hb dX5_add_0 rfl (lv_at hl 0 rfl) ?_
  refine lv_iload_n hx hb dX5_add_1 rfl (lv_at hl 1 rfl) ?_
  refine lv_iload_n hx hb dX5_add_2 rfl (lv_at hl 2 rfl) ?_
  refine lv_iload_n hx hb dX5_add_3 rfl (lv_at hl 3 rfl) ?_
  refine lv_iload hx hb dX5_add_4 (lv_at hl 4 rfl) ?_
  refine Cp.callS (v := .int (bI (noVs a b q t))) (ct_X5_areNoValues l g a b q t ) X hL hl sb_X5_areNoValues q1879 rfl rfl (Nat.le_of_ble_eq_true rfl) dX5_add_6 ⟨Nat.le_of_ble_eq_true rfl, Nat.le_of_ble_eq_true rfl⟩ (by omega) (by omega) trivial (fun locs hL => ?_)
  refine b_ifeq (tgt := 16) X dX5_add_9 (by decide) (fun c_9 => ?_) (fun c_9 => ?_)
  ·
    refine lv_aload_n hx hb dX5_add_16 rfl (lv_at hl 0 rfl) ?_
    refine mg_7 X rfl hW dX5_add_17 ?_
    refine lv_sipush (v := nI 160) hx hb dX5_add_20 (by decide) ?_
    refine m_ld (v := (nI n)) X hW 0 (by decide) rfl 160 rfl (by decide) (show (S.1 0) 160 = (nI n) from hN) dX5_add_23 ?_
    refine lv_bipush (v := nI 40) hx hb dX5_add_24 (by decide) ?_
    refine n_icmp_ne (tgt := 33) X dX5_add_26 (by decide) (by omega) (by omega) (fun c_26 => ?_) (fun c_26 => ?_)
    ·
      refine lv_iconst (v := nI 0) hx hb dX5_add_33 (by decide) ?_
      refine mp_38 X rfl hL hW dX5_add_34 (fun H locs hL hW hO1 => ?_)
      have hO := hO.trans hO1
      have hW := MW.cast (S1 := uS S 15 (nI 0)) hW ⟨rfl, rfl, rfl, rfl, rfl, rfl, rfl, rfl, rfl, rfl, rfl, rfl, rfl, rfl, rfl, rfl, rfl⟩
      refine lv_aload_n hx hb dX5_add_37 rfl (lv_at hl 0 rfl) ?_
      refine mg_38 X rfl hW dX5_add_38 (W.stk (w := (nI 0)) rfl ?_)
      refine n_ifeq (tgt := 46) X dX5_add_41 (by decide) (by omega) (fun c_41 => ?_) (fun c_41 => ?_)
      ·
        refine lv_aload_n hx hb dX5_add_46 rfl (lv_at hl 0 rfl) ?_
        refine Ct.callV (ct_X5_record l g o st (uS S 15 (nI 0)) hst (by omega)) X hL hl vb_X5_record q1888 (hW.2.1.recv hKV rfl) rfl rfl (Nat.le_of_ble_eq_true rfl) dX5_add_47 ⟨Nat.le_of_ble_eq_true rfl, Nat.le_of_ble_eq_true rfl⟩ (by omega) (by omega) hW (fun r H1 locs hL hp => ?_)
        obtain ⟨rfl, hW, hO1⟩ := hp
        have hO := hO.trans hO1
        have hW := MW.cast (S1 := uS (uS (uA S 2 (recP (S.1 2) (S.1 0) st)) 12 (nI (recN st + 1))) 15 (nI 0)) hW ⟨rfl, rfl, rfl, rfl, rfl, rfl, rfl, rfl, rfl, rfl, rfl, rfl, rfl, rfl, rfl, rfl, rfl⟩
        refine lv_aload_n hx hb dX5_add_50 rfl (lv_at hl 0 rfl) ?_
        refine lv_iload_n hx hb dX5_add_51 rfl (lv_at hl 1 rfl) ?_
        refine lv_iload_n hx hb dX5_add_52 rfl (lv_at hl 2 rfl) ?_
        refine lv_iload_n hx hb dX5_add_53 rfl (lv_at hl 3 rfl) ?_
        refine lv_iload hx hb dX5_add_54 (lv_at hl 4 rfl) ?_
        have hn39 : n < 40 := by omega
        refine Ct.callV (ct_X5_addNow l g o n (uS (uS (uA S 2 (recP (S.1 2) (S.1 0) st)) 12 (nI (recN st + 1))) 15 (nI 0)) a b q t hN hn39) X hL hl vb_X5_addNow q1892 (hW.2.1.recv hKV rfl) rfl rfl (Nat.le_of_ble_eq_true rfl) dX5_add_56 ⟨Nat.le_of_ble_eq_true rfl, Nat.le_of_ble_eq_true rfl⟩ (by omega) (by omega) hW (fun r H1 locs hL hp => ?_)
        obtain ⟨rfl, hW, hO1⟩ := hp
        have hO := hO.trans hO1
        have hW := MW.cast (S1 := uS (uS (uA (uA S 0 (addR (S.1 0) n a b q t)) 2 (recP (S.1 2) (S.1 0) st)) 12 (nI (recN st + 1))) 15 (nI 0)) hW ⟨rfl, rfl, rfl, rfl, rfl, rfl, rfl, rfl, rfl, rfl, rfl, rfl, rfl, rfl, rfl, rfl, rfl⟩
        exact r_iret X hL rfl rfl dX5_add_59 (by omega) (by omega) ⟨uS (uS (uA (uA S 0 (addR (S.1 0) n a b q t)) 2 (recP (S.1 2) (S.1 0) st)) 12 (nI (recN st + 1))) 15 (nI 0), AP.mk (t := 0) (v := some (.int (nI n))) (X := upR S st (addR (S.1 0) n a b q t)) (by simp [s_add, x_, q_, vI, c_9, c_26]) ⟨rfl, rfl, rfl, rfl, rfl, rfl, rfl, rfl⟩ rfl rfl, hW, hO⟩
      ·
        exact absurd c_41 (by decide)
    ·
      refine lv_iconst (v := nI 2) hx hb dX5_add_29 (by decide) ?_
      refine lv_goto (tgt := 34) hx hb dX5_add_30 (by decide) ?_
      refine mp_38 X rfl hL hW dX5_add_34 (fun H locs hL hW hO1 => ?_)
      have hO := hO.trans hO1
      have hW := MW.cast (S1 := uS S 15 (nI 2)) hW ⟨rfl, rfl, rfl, rfl, rfl, rfl, rfl, rfl, rfl, rfl, rfl, rfl, rfl, rfl, rfl, rfl, rfl⟩
      refine lv_aload_n hx hb dX5_add_37 rfl (lv_at hl 0 rfl) ?_
      refine mg_38 X rfl hW dX5_add_38 (W.stk (w := (nI 2)) rfl ?_)
      refine n_ifeq (tgt := 46) X dX5_add_41 (by decide) (by omega) (fun c_41 => ?_) (fun c_41 => ?_)
      ·
        exact absurd c_41 (by decide)
      ·
        refine lv_iconst (v := nI 0) hx hb dX5_add_44 (by decide) ?_
        exact r_iret X hL rfl rfl dX5_add_45 (by omega) (by omega) ⟨uS S 15 (nI 2), AP.mk (t := 2) (v := some (.int (nI 0))) (X := S) (by simp [s_add, x_, q_, vI, c_9, c_26]) ⟨rfl, rfl, rfl, rfl, rfl, rfl, rfl, rfl⟩ rfl rfl, hW, hO⟩
  ·
    refine lv_iconst (v := nI 1) hx hb dX5_add_12 (by decide) ?_
    refine lv_goto (tgt := 34) hx hb dX5_add_13 (by decide) ?_
    refine mp_38 X rfl hL hW dX5_add_34 (fun H locs hL hW hO1 => ?_)
    have hO := hO.trans hO1
    have hW := MW.cast (S1 := uS S 15 (nI 1)) hW ⟨rfl, rfl, rfl, rfl, rfl, rfl, rfl, rfl, rfl, rfl, rfl, rfl, rfl, rfl, rfl, rfl, rfl⟩
    refine lv_aload_n hx hb dX5_add_37 rfl (lv_at hl 0 rfl) ?_
    refine mg_38 X rfl hW dX5_add_38 (W.stk (w := (nI 1)) rfl ?_)
    refine n_ifeq (tgt := 46) X dX5_add_41 (by decide) (by omega) (fun c_41 => ?_) (fun c_41 => ?_)
    ·
      exact absurd c_41 (by decide)
    ·
      refine lv_iconst (v := nI 0) hx hb dX5_add_44 (by decide) ?_
      exact r_iret X hL rfl rfl dX5_add_45 (by omega) (by omega) ⟨uS S 15 (nI 1), AP.mk (t := 1) (v := some (.int (nI 0))) (X := S) (by simp [s_add, x_, q_, vI, c_9]) ⟨rfl, rfl, rfl, rfl, rfl, rfl, rfl, rfl⟩ rfl rfl, hW, hO⟩
theorem vb_X5_add : VB yX5_add cX5_add 5 (some .int) 4 := ⟨q1876, q1877, q111, q1878, ⟨by decide, by decide, by decide +kernel⟩⟩

def s_remove (S : MS) (n st : Nat) (i : Int32) : Nat × Option Value × MS := if noB n i then x_ S 1 else (0, vI (nI (n - 1)), upR S st (delR (S.1 0) n i.toNatClampNeg))
def s_change (S : MS) (n st : Nat) (i q v : Int32) : Nat × Option Value × MS := if noB n i || noS q then x_ S 1 else if noV v then x_ S 2 else (0, vI (S.1 0 (4 * i.toNatClampNeg + q.toNatClampNeg)), upR S st (upd (S.1 0) (4 * i.toNatClampNeg + q.toNatClampNeg) v))
def s_set (b : Nat) (bad : Bool) (S : MS) (st : Nat) (q v : Int32) : Nat × Option Value × MS := if noS q then x_ S 1 else if bad then x_ S 2 else (0, vI (S.1 0 (b + q.toNatClampNeg)), upR S st (upd (S.1 0) (b + q.toNatClampNeg) v))
def s_bounds (S : MS) (n st : Nat) (q a b : Int32) : Nat × Option Value × MS := if noS q then x_ S 1 else if noV a || !inB b a (nI 99) then x_ S 2 else (0, vI (nI (cnt (cB (upd (upd (S.1 0) (165 + q.toNatClampNeg) a) (169 + q.toNatClampNeg) b)) n)), upR S st (upd (upd (S.1 0) (165 + q.toNatClampNeg) a) (169 + q.toNatClampNeg) b))

set_option maxRecDepth 100000 in
set_option maxHeartbeats 4000000 in
theorem ct_X5_remove (l : Launch) (g : GT) (o n st : Nat) (S : MS) (i : Int32) (hN : S.1 0 160 = nI n) (hn : n ≤ 40) (hst : S.2.1 12 = nI st) (hs6 : st ≤ 6) : Ct l g yX5_remove cX5_remove 2 (some .int) 4 0 0 [.ref o, .int i] (MW g o S) (fun r H H1 => ∃ S1, AP S1 (s_remove S n st i) r ∧ MW g o S1 H1 ∧ Off o H H1) := by
  refine Ct.of (by decide) (Nat.le_of_ble_eq_true rfl) ?_
  intro p e s m args below meth c X hP ls hl
  have hx := X.1
  have hb := X.2.1
  have hKV := X.2.2.2.2.2.2.2.1.1
  have hL : ∀ q ∈ ([] : List Loc), gLo g ≤ q.base := fun _ h => by cases h
  have hl : lv_has ls 2 [(0, .ref o), (1, .int i)] := hl
  have hW : MW g o S s.heap := hP
  have hO : Off o s.heap s.heap := Off.rfl'
  refine lv_aload_n hx hb dX5_remove_0 rfl (lv_at hl 0 rfl) ?_
  refine lv_iconst (v := nI 0) hx hb dX5_remove_1 (by decide) ?_
  refine mp_38 X rfl hL hW dX5_remove_2 (fun H locs hL hW hO1 => ?_)
  have hO := hO.trans hO1
  have hW := MW.cast (S1 := uS S 15 (nI 0)) hW ⟨rfl, rfl, rfl, rfl, rfl, rfl, rfl, rfl, rfl, rfl, rfl, rfl, rfl, rfl, rfl, rfl, rfl⟩
  refine lv_aload_n hx hb dX5_remove_5 rfl (lv_at hl 0 rfl) ?_
  refine lv_iload_n hx hb dX5_remove_6 rfl (lv_at hl 1 rfl) ?_
  refine Cp.callV (v := .int (bI (noB n i))) (ct_X5_isNone l g o n (uS S 15 (nI 0)) i hN hn) X hL hl vb_X5_isNone q1900 (hW.2.1.recv hKV rfl) rfl rfl (Nat.le_of_ble_eq_true rfl) dX5_remove_7 ⟨Nat.le_of_ble_eq_true rfl, Nat.le_of_ble_eq_true rfl⟩ (by omega) (by omega) hW (fun locs hL => ?_)
  refine b_ifeq (tgt := 19) X dX5_remove_10 (by decide) (fun c_10 => ?_) (fun c_10 => ?_)
  ·
    obtain ⟨hic, hil⟩ := noB_nat hn c_10
    refine lv_aload_n hx hb dX5_remove_19 rfl (lv_at hl 0 rfl) ?_
    refine Ct.callV (ct_X5_record l g o st (uS S 15 (nI 0)) hst (by omega)) X hL hl vb_X5_record q1888 (hW.2.1.recv hKV rfl) rfl rfl (Nat.le_of_ble_eq_true rfl) dX5_remove_20 ⟨Nat.le_of_ble_eq_true rfl, Nat.le_of_ble_eq_true rfl⟩ (by omega) (by omega) hW (fun r H1 locs hL hp => ?_)
    obtain ⟨rfl, hW, hO1⟩ := hp
    have hO := hO.trans hO1
    have hW := MW.cast (S1 := uS (uS (uA S 2 (recP (S.1 2) (S.1 0) st)) 12 (nI (recN st + 1))) 15 (nI 0)) hW ⟨rfl, rfl, rfl, rfl, rfl, rfl, rfl, rfl, rfl, rfl, rfl, rfl, rfl, rfl, rfl, rfl, rfl⟩
    refine lv_aload_n hx hb dX5_remove_23 rfl (lv_at hl 0 rfl) ?_
    refine lv_iload_n hx hb dX5_remove_24 rfl (lv_at hl 1 rfl) ?_
    refine W.stk (w := (nI i.toNatClampNeg)) hic ?_
    refine Ct.callV (ct_X5_removeNow l g o n i.toNatClampNeg (uS (uS (uA S 2 (recP (S.1 2) (S.1 0) st)) 12 (nI (recN st + 1))) 15 (nI 0)) hN hn (by omega)) X hL hl vb_X5_removeNow q1908 (hW.2.1.recv hKV rfl) rfl rfl (Nat.le_of_ble_eq_true rfl) dX5_remove_25 ⟨Nat.le_of_ble_eq_true rfl, Nat.le_of_ble_eq_true rfl⟩ (by omega) (by omega) hW (fun r H1 locs hL hp => ?_)
    obtain ⟨rfl, hW, hO1⟩ := hp
    have hO := hO.trans hO1
    have hW := MW.cast (S1 := uS (uS (uA (uA S 0 (delR (S.1 0) n i.toNatClampNeg)) 2 (recP (S.1 2) (S.1 0) st)) 12 (nI (recN st + 1))) 15 (nI 0)) hW ⟨rfl, rfl, rfl, rfl, rfl, rfl, rfl, rfl, rfl, rfl, rfl, rfl, rfl, rfl, rfl, rfl, rfl⟩
    refine lv_aload_n hx hb dX5_remove_28 rfl (lv_at hl 0 rfl) ?_
    refine mg_7 X rfl hW dX5_remove_29 ?_
    refine lv_sipush (v := nI 160) hx hb dX5_remove_32 (by decide) ?_
    refine m_ld (v := (nI (n - 1))) X hW 0 (by decide) rfl 160 rfl (by decide) (show (delR (S.1 0) n i.toNatClampNeg) 160 = (nI (n - 1)) from (by unfold delR; rw [upd_n _ _ (by decide), upd_s])) dX5_remove_35 ?_
    exact r_iret X hL rfl rfl dX5_remove_36 (by omega) (by omega) ⟨uS (uS (uA (uA S 0 (delR (S.1 0) n i.toNatClampNeg)) 2 (recP (S.1 2) (S.1 0) st)) 12 (nI (recN st + 1))) 15 (nI 0), AP.mk (t := 0) (v := some (.int (nI (n - 1)))) (X := upR S st (delR (S.1 0) n i.toNatClampNeg)) (by simp [s_remove, x_, q_, vI, c_10]) ⟨rfl, rfl, rfl, rfl, rfl, rfl, rfl, rfl⟩ rfl rfl, hW, hO⟩
  ·
    refine lv_aload_n hx hb dX5_remove_13 rfl (lv_at hl 0 rfl) ?_
    refine lv_iconst (v := nI 1) hx hb dX5_remove_14 (by decide) ?_
    refine Ct.callV (ct_X5_fails l g o (uS S 15 (nI 0)) (nI 1) ) X hL hl vb_X5_fails q1904 (hW.2.1.recv hKV rfl) rfl rfl (Nat.le_of_ble_eq_true rfl) dX5_remove_15 ⟨Nat.le_of_ble_eq_true rfl, Nat.le_of_ble_eq_true rfl⟩ (by omega) (by omega) hW (fun r H1 locs hL hp => ?_)
    obtain ⟨rfl, hW, hO1⟩ := hp
    have hO := hO.trans hO1
    have hW := MW.cast (S1 := uS S 15 (nI 1)) hW ⟨rfl, rfl, rfl, rfl, rfl, rfl, rfl, rfl, rfl, rfl, rfl, rfl, rfl, rfl, rfl, rfl, rfl⟩
    exact r_iret X hL rfl rfl dX5_remove_18 (by omega) (by omega) ⟨uS S 15 (nI 1), AP.mk (t := 1) (v := some (.int (nI 0))) (X := S) (by simp [s_remove, x_, q_, vI, c_10]) ⟨rfl, rfl, rfl, rfl, rfl, rfl, rfl, rfl⟩ rfl rfl, hW, hO⟩
theorem vb_X5_remove : VB yX5_remove cX5_remove 2 (some .int) 1 := ⟨q1897, q1898, q111, q1899, ⟨by decide, by decide, by decide +kernel⟩⟩

set_option maxRecDepth 100000 in
set_option maxHeartbeats 4000000 in
theorem ct_X5_change (l : Launch) (g : GT) (o n st : Nat) (S : MS) (i q v : Int32) (hN : S.1 0 160 = nI n) (hn : n ≤ 40) (hst : S.2.1 12 = nI st) (hs6 : st ≤ 6) : Ct l g yX5_change cX5_change 5 (some .int) 4 0 0 [.ref o, .int i, .int q, .int v] (MW g o S) (fun r H H1 => ∃ S1, AP S1 (s_change S n st i q v) r ∧ MW g o S1 H1 ∧ Off o H H1) := by
  refine Ct.of (by decide) (Nat.le_of_ble_eq_true rfl) ?_
  intro p e s m args below meth c X hP ls hl
  have hx := X.1
  have hb := X.2.1
  have hKV := X.2.2.2.2.2.2.2.1.1
  have hL : ∀ q ∈ ([] : List Loc), gLo g ≤ q.base := fun _ h => by cases h
  have hl : lv_has ls 5 [(0, .ref o), (1, .int i), (2, .int q), (3, .int v)] := hl
  have hW : MW g o S s.heap := hP
  have hO : Off o s.heap s.heap := Off.rfl'
  refine lv_aload_n hx hb dX5_change_0 rfl (lv_at hl 0 rfl) ?_
  refine lv_aload_n hx hb dX5_change_1 rfl (lv_at hl 0 rfl) ?_
  refine lv_iload_n hx hb dX5_change_2 rfl (lv_at hl 1 rfl) ?_
  refine Cp.callV (v := .int (bI (noB n i))) (ct_X5_isNone l g o n S i hN hn) X hL hl vb_X5_isNone q1900 (hW.2.1.recv hKV rfl) rfl rfl (Nat.le_of_ble_eq_true rfl) dX5_change_3 ⟨Nat.le_of_ble_eq_true rfl, Nat.le_of_ble_eq_true rfl⟩ (by omega) (by omega) hW (fun locs hL => ?_)
  refine b_ifne (tgt := 16) X dX5_change_6 (by decide) (fun c_6 => ?_) (fun c_6 => ?_)
  ·
    refine lv_iconst (v := nI 1) hx hb dX5_change_16 (by decide) ?_
    refine lv_goto (tgt := 32) hx hb dX5_change_17 (by decide) ?_
    refine mp_38 X rfl hL hW dX5_change_32 (fun H locs hL hW hO1 => ?_)
    have hO := hO.trans hO1
    have hW := MW.cast (S1 := uS S 15 (nI 1)) hW ⟨rfl, rfl, rfl, rfl, rfl, rfl, rfl, rfl, rfl, rfl, rfl, rfl, rfl, rfl, rfl, rfl, rfl⟩
    refine lv_aload_n hx hb dX5_change_35 rfl (lv_at hl 0 rfl) ?_
    refine mg_38 X rfl hW dX5_change_36 (W.stk (w := (nI 1)) rfl ?_)
    refine n_ifeq (tgt := 44) X dX5_change_39 (by decide) (by omega) (fun c_39 => ?_) (fun c_39 => ?_)
    ·
      exact absurd c_39 (by decide)
    ·
      refine lv_iconst (v := nI 0) hx hb dX5_change_42 (by decide) ?_
      exact r_iret X hL rfl rfl dX5_change_43 (by omega) (by omega) ⟨uS S 15 (nI 1), AP.mk (t := 1) (v := some (.int (nI 0))) (X := S) (by simp [s_change, x_, q_, vI, noS, noV, c_6]) ⟨rfl, rfl, rfl, rfl, rfl, rfl, rfl, rfl⟩ rfl rfl, hW, hO⟩
  ·
    refine lv_iload_n hx hb dX5_change_9 rfl (lv_at hl 2 rfl) ?_
    refine Cp.callS (v := .int (bI (!inB q (nI 0) (nI 3)))) (ct_X5_isNoSide l g q ) X hL hl sb_X5_isNoSide q1916 rfl rfl (Nat.le_of_ble_eq_true rfl) dX5_change_10 ⟨Nat.le_of_ble_eq_true rfl, Nat.le_of_ble_eq_true rfl⟩ (by omega) (by omega) trivial (fun locs hL => ?_)
    refine b_ifeq (tgt := 20) X dX5_change_13 (by decide) (fun c_13 => ?_) (fun c_13 => ?_)
    ·
      refine lv_iload_n hx hb dX5_change_20 rfl (lv_at hl 3 rfl) ?_
      refine Cp.callS (v := .int (bI (!inB v (nI 0) (nI 99)))) (ct_X5_isNoValue l g v ) X hL hl sb_X5_isNoValue q1882 rfl rfl (Nat.le_of_ble_eq_true rfl) dX5_change_21 ⟨Nat.le_of_ble_eq_true rfl, Nat.le_of_ble_eq_true rfl⟩ (by omega) (by omega) trivial (fun locs hL => ?_)
      refine b_ifeq (tgt := 31) X dX5_change_24 (by decide) (fun c_24 => ?_) (fun c_24 => ?_)
      ·
        refine lv_iconst (v := nI 0) hx hb dX5_change_31 (by decide) ?_
        refine mp_38 X rfl hL hW dX5_change_32 (fun H locs hL hW hO1 => ?_)
        have hO := hO.trans hO1
        have hW := MW.cast (S1 := uS S 15 (nI 0)) hW ⟨rfl, rfl, rfl, rfl, rfl, rfl, rfl, rfl, rfl, rfl, rfl, rfl, rfl, rfl, rfl, rfl, rfl⟩
        refine lv_aload_n hx hb dX5_change_35 rfl (lv_at hl 0 rfl) ?_
        refine mg_38 X rfl hW dX5_change_36 (W.stk (w := (nI 0)) rfl ?_)
        refine n_ifeq (tgt := 44) X dX5_change_39 (by decide) (by omega) (fun c_39 => ?_) (fun c_39 => ?_)
        ·
          obtain ⟨hic, hil⟩ := noB_nat hn c_6
          obtain ⟨hqc, hql⟩ := noS_nat c_13
          refine lv_aload_n hx hb dX5_change_44 rfl (lv_at hl 0 rfl) ?_
          refine Ct.callV (ct_X5_record l g o st (uS S 15 (nI 0)) hst (by omega)) X hL hl vb_X5_record q1888 (hW.2.1.recv hKV rfl) rfl rfl (Nat.le_of_ble_eq_true rfl) dX5_change_45 ⟨Nat.le_of_ble_eq_true rfl, Nat.le_of_ble_eq_true rfl⟩ (by omega) (by omega) hW (fun r H1 locs hL hp => ?_)
          obtain ⟨rfl, hW, hO1⟩ := hp
          have hO := hO.trans hO1
          have hW := MW.cast (S1 := uS (uS (uA S 2 (recP (S.1 2) (S.1 0) st)) 12 (nI (recN st + 1))) 15 (nI 0)) hW ⟨rfl, rfl, rfl, rfl, rfl, rfl, rfl, rfl, rfl, rfl, rfl, rfl, rfl, rfl, rfl, rfl, rfl⟩
          refine lv_aload_n hx hb dX5_change_48 rfl (lv_at hl 0 rfl) ?_
          refine lv_iload_n hx hb dX5_change_49 rfl (lv_at hl 1 rfl) ?_
          refine W.stk (w := (nI i.toNatClampNeg)) hic ?_
          refine lv_iload_n hx hb dX5_change_50 rfl (lv_at hl 2 rfl) ?_
          refine W.stk (w := (nI q.toNatClampNeg)) hqc ?_
          refine Cp.callV (v := .int (S.1 0 (4 * i.toNatClampNeg + q.toNatClampNeg))) (ct_X5_value l g o i.toNatClampNeg q.toNatClampNeg (uS (uS (uA S 2 (recP (S.1 2) (S.1 0) st)) 12 (nI (recN st + 1))) 15 (nI 0)) (by omega) (by omega)) X hL hl vb_X5_value q1919 (hW.2.1.recv hKV rfl) rfl rfl (Nat.le_of_ble_eq_true rfl) dX5_change_51 ⟨Nat.le_of_ble_eq_true rfl, Nat.le_of_ble_eq_true rfl⟩ (by omega) (by omega) hW (fun locs hL => ?_)
          refine lv_istore (lv' := [(4, .int _), (0, .ref _), (1, .int _), (2, .int _), (3, .int _)]) hx hb dX5_change_54 hl (by decide) rfl (fun ls hl => ?_)
          refine lv_aload_n hx hb dX5_change_56 rfl (lv_at hl 1 rfl) ?_
          refine mg_7 X rfl hW dX5_change_57 ?_
          refine lv_iconst (v := nI 0) hx hb dX5_change_60 (by decide) ?_
          refine lv_iconst (v := nI 4) hx hb dX5_change_61 (by decide) ?_
          refine lv_iload_n hx hb dX5_change_62 rfl (lv_at hl 2 rfl) ?_
          refine W.stk (w := (nI i.toNatClampNeg)) hic ?_
          refine n_imul X dX5_change_63 ?_
          refine n_iadd X dX5_change_64 ?_
          refine lv_iload_n hx hb dX5_change_65 rfl (lv_at hl 3 rfl) ?_
          refine W.stk (w := (nI q.toNatClampNeg)) hqc ?_
          refine n_iadd X dX5_change_66 ?_
          refine lv_iload_n hx hb dX5_change_67 rfl (lv_at hl 4 rfl) ?_
          refine m_st X hL hW 0 (by decide) rfl (4 * i.toNatClampNeg + q.toNatClampNeg) (congrArg nI (by omega)) (by show 4 * i.toNatClampNeg + q.toNatClampNeg < 179; omega) dX5_change_68 (fun H locs hL hW hO1 => ?_)
          have hO := hO.trans hO1
          have hW := MW.cast (S1 := uS (uS (uA (uA S 0 (upd (S.1 0) (4 * i.toNatClampNeg + q.toNatClampNeg) v)) 2 (recP (S.1 2) (S.1 0) st)) 12 (nI (recN st + 1))) 15 (nI 0)) hW ⟨rfl, rfl, rfl, rfl, rfl, rfl, rfl, rfl, rfl, rfl, rfl, rfl, rfl, rfl, rfl, rfl, rfl⟩
          refine lv_iload hx hb dX5_change_69 (lv_at hl 0 rfl) ?_
          exact r_iret X hL rfl rfl dX5_change_71 (by omega) (by omega) ⟨uS (uS (uA (uA S 0 (upd (S.1 0) (4 * i.toNatClampNeg + q.toNatClampNeg) v)) 2 (recP (S.1 2) (S.1 0) st)) 12 (nI (recN st + 1))) 15 (nI 0), AP.mk (t := 0) (v := some (.int (S.1 0 (4 * i.toNatClampNeg + q.toNatClampNeg)))) (X := upR S st (upd (S.1 0) (4 * i.toNatClampNeg + q.toNatClampNeg) v)) (by simp [s_change, x_, q_, vI, noS, noV, c_6, c_13, c_24]) ⟨rfl, rfl, rfl, rfl, rfl, rfl, rfl, rfl⟩ rfl rfl, hW, hO⟩
        ·
          exact absurd c_39 (by decide)
      ·
        refine lv_iconst (v := nI 2) hx hb dX5_change_27 (by decide) ?_
        refine lv_goto (tgt := 32) hx hb dX5_change_28 (by decide) ?_
        refine mp_38 X rfl hL hW dX5_change_32 (fun H locs hL hW hO1 => ?_)
        have hO := hO.trans hO1
        have hW := MW.cast (S1 := uS S 15 (nI 2)) hW ⟨rfl, rfl, rfl, rfl, rfl, rfl, rfl, rfl, rfl, rfl, rfl, rfl, rfl, rfl, rfl, rfl, rfl⟩
        refine lv_aload_n hx hb dX5_change_35 rfl (lv_at hl 0 rfl) ?_
        refine mg_38 X rfl hW dX5_change_36 (W.stk (w := (nI 2)) rfl ?_)
        refine n_ifeq (tgt := 44) X dX5_change_39 (by decide) (by omega) (fun c_39 => ?_) (fun c_39 => ?_)
        ·
          exact absurd c_39 (by decide)
        ·
          refine lv_iconst (v := nI 0) hx hb dX5_change_42 (by decide) ?_
          exact r_iret X hL rfl rfl dX5_change_43 (by omega) (by omega) ⟨uS S 15 (nI 2), AP.mk (t := 2) (v := some (.int (nI 0))) (X := S) (by simp [s_change, x_, q_, vI, noS, noV, c_6, c_13, c_24]) ⟨rfl, rfl, rfl, rfl, rfl, rfl, rfl, rfl⟩ rfl rfl, hW, hO⟩
    ·
      refine lv_iconst (v := nI 1) hx hb dX5_change_16 (by decide) ?_
      refine lv_goto (tgt := 32) hx hb dX5_change_17 (by decide) ?_
      refine mp_38 X rfl hL hW dX5_change_32 (fun H locs hL hW hO1 => ?_)
      have hO := hO.trans hO1
      have hW := MW.cast (S1 := uS S 15 (nI 1)) hW ⟨rfl, rfl, rfl, rfl, rfl, rfl, rfl, rfl, rfl, rfl, rfl, rfl, rfl, rfl, rfl, rfl, rfl⟩
      refine lv_aload_n hx hb dX5_change_35 rfl (lv_at hl 0 rfl) ?_
      refine mg_38 X rfl hW dX5_change_36 (W.stk (w := (nI 1)) rfl ?_)
      refine n_ifeq (tgt := 44) X dX5_change_39 (by decide) (by omega) (fun c_39 => ?_) (fun c_39 => ?_)
      ·
        exact absurd c_39 (by decide)
      ·
        refine lv_iconst (v := nI 0) hx hb dX5_change_42 (by decide) ?_
        exact r_iret X hL rfl rfl dX5_change_43 (by omega) (by omega) ⟨uS S 15 (nI 1), AP.mk (t := 1) (v := some (.int (nI 0))) (X := S) (by simp [s_change, x_, q_, vI, noS, noV, c_6, c_13]) ⟨rfl, rfl, rfl, rfl, rfl, rfl, rfl, rfl⟩ rfl rfl, hW, hO⟩
theorem vb_X5_change : VB yX5_change cX5_change 5 (some .int) 3 := ⟨q1913, q1914, q111, q1915, ⟨by decide, by decide, by decide +kernel⟩⟩

set_option maxRecDepth 100000 in
set_option maxHeartbeats 4000000 in
theorem ct_X5_setWish (l : Launch) (g : GT) (o st : Nat) (S : MS) (q v : Int32) (hst : S.2.1 12 = nI st) (hs6 : st ≤ 6) : Ct l g yX5_setWish cX5_setWish 4 (some .int) 4 0 0 [.ref o, .int q, .int v] (MW g o S) (fun r H H1 => ∃ S1, AP S1 (s_set 161 (!inB v (nI 0) (nI 2)) S st q v) r ∧ MW g o S1 H1 ∧ Off o H H1) := by
  refine Ct.of (by decide) (Nat.le_of_ble_eq_true rfl) ?_
  intro p e s m args below meth c X hP ls hl
  have hx := X.1
  have hb := X.2.1
  have hKV := X.2.2.2.2.2.2.2.1.1
  have hL : ∀ q ∈ ([] : List Loc), gLo g ≤ q.base := fun _ h => by cases h
  have hl : lv_has ls 4 [(0, .ref o), (1, .int q), (2, .int v)] := hl
  have hW : MW g o S s.heap := hP
  have hO : Off o s.heap s.heap := Off.rfl'
  refine lv_aload_n hx hb dX5_setWish_0 rfl (lv_at hl 0 rfl) ?_
  refine lv_iload_n hx hb dX5_setWish_1 rfl (lv_at hl 1 rfl) ?_
  refine Cp.callS (v := .int (bI (!inB q (nI 0) (nI 3)))) (ct_X5_isNoSide l g q ) X hL hl sb_X5_isNoSide q1916 rfl rfl (Nat.le_of_ble_eq_true rfl) dX5_setWish_2 ⟨Nat.le_of_ble_eq_true rfl, Nat.le_of_ble_eq_true rfl⟩ (by omega) (by omega) trivial (fun locs hL => ?_)
  refine b_ifeq (tgt := 12) X dX5_setWish_5 (by decide) (fun c_5 => ?_) (fun c_5 => ?_)
  ·
    refine lv_iload_n hx hb dX5_setWish_12 rfl (lv_at hl 2 rfl) ?_
    refine lv_iconst (v := nI 0) hx hb dX5_setWish_13 (by decide) ?_
    refine lv_iconst (v := nI 2) hx hb dX5_setWish_14 (by decide) ?_
    refine Cp.callS (v := .int (bI (inB v (nI 0) (nI 2)))) (ct_X5_in l g v (nI 0) (nI 2) ) X hL hl sb_X5_in q1885 rfl rfl (Nat.le_of_ble_eq_true rfl) dX5_setWish_15 ⟨Nat.le_of_ble_eq_true rfl, Nat.le_of_ble_eq_true rfl⟩ (by omega) (by omega) trivial (fun locs hL => ?_)
    refine b_ifne (tgt := 25) X dX5_setWish_18 (by decide) (fun c_18 => ?_) (fun c_18 => ?_)
    ·
      refine lv_iconst (v := nI 0) hx hb dX5_setWish_25 (by decide) ?_
      refine mp_38 X rfl hL hW dX5_setWish_26 (fun H locs hL hW hO1 => ?_)
      have hO := hO.trans hO1
      have hW := MW.cast (S1 := uS S 15 (nI 0)) hW ⟨rfl, rfl, rfl, rfl, rfl, rfl, rfl, rfl, rfl, rfl, rfl, rfl, rfl, rfl, rfl, rfl, rfl⟩
      refine lv_aload_n hx hb dX5_setWish_29 rfl (lv_at hl 0 rfl) ?_
      refine mg_38 X rfl hW dX5_setWish_30 (W.stk (w := (nI 0)) rfl ?_)
      refine n_ifeq (tgt := 38) X dX5_setWish_33 (by decide) (by omega) (fun c_33 => ?_) (fun c_33 => ?_)
      ·
        obtain ⟨hqc, hql⟩ := noS_nat c_5
        refine lv_aload_n hx hb dX5_setWish_38 rfl (lv_at hl 0 rfl) ?_
        refine Ct.callV (ct_X5_record l g o st (uS S 15 (nI 0)) hst (by omega)) X hL hl vb_X5_record q1888 (hW.2.1.recv hKV rfl) rfl rfl (Nat.le_of_ble_eq_true rfl) dX5_setWish_39 ⟨Nat.le_of_ble_eq_true rfl, Nat.le_of_ble_eq_true rfl⟩ (by omega) (by omega) hW (fun r H1 locs hL hp => ?_)
        obtain ⟨rfl, hW, hO1⟩ := hp
        have hO := hO.trans hO1
        have hW := MW.cast (S1 := uS (uS (uA S 2 (recP (S.1 2) (S.1 0) st)) 12 (nI (recN st + 1))) 15 (nI 0)) hW ⟨rfl, rfl, rfl, rfl, rfl, rfl, rfl, rfl, rfl, rfl, rfl, rfl, rfl, rfl, rfl, rfl, rfl⟩
        refine lv_aload_n hx hb dX5_setWish_42 rfl (lv_at hl 0 rfl) ?_
        refine mg_7 X rfl hW dX5_setWish_43 ?_
        refine lv_sipush (v := nI 161) hx hb dX5_setWish_46 (by decide) ?_
        refine lv_iload_n hx hb dX5_setWish_49 rfl (lv_at hl 1 rfl) ?_
        refine W.stk (w := (nI q.toNatClampNeg)) hqc ?_
        refine n_iadd X dX5_setWish_50 ?_
        refine m_ld (v := ((S.1 0) (161 + q.toNatClampNeg))) X hW 0 (by decide) rfl (161 + q.toNatClampNeg) rfl (by show 161 + q.toNatClampNeg < 179; omega) rfl dX5_setWish_51 ?_
        refine lv_istore_n (lv' := [(3, .int _), (0, .ref _), (1, .int _), (2, .int _)]) hx hb dX5_setWish_52 rfl hl (by decide) rfl (fun ls hl => ?_)
        refine lv_aload_n hx hb dX5_setWish_53 rfl (lv_at hl 1 rfl) ?_
        refine mg_7 X rfl hW dX5_setWish_54 ?_
        refine lv_sipush (v := nI 161) hx hb dX5_setWish_57 (by decide) ?_
        refine lv_iload_n hx hb dX5_setWish_60 rfl (lv_at hl 2 rfl) ?_
        refine W.stk (w := (nI q.toNatClampNeg)) hqc ?_
        refine n_iadd X dX5_setWish_61 ?_
        refine lv_iload_n hx hb dX5_setWish_62 rfl (lv_at hl 3 rfl) ?_
        refine m_st X hL hW 0 (by decide) rfl (161 + q.toNatClampNeg) rfl (by show 161 + q.toNatClampNeg < 179; omega) dX5_setWish_63 (fun H locs hL hW hO1 => ?_)
        have hO := hO.trans hO1
        have hW := MW.cast (S1 := uS (uS (uA (uA S 0 (upd (S.1 0) (161 + q.toNatClampNeg) v)) 2 (recP (S.1 2) (S.1 0) st)) 12 (nI (recN st + 1))) 15 (nI 0)) hW ⟨rfl, rfl, rfl, rfl, rfl, rfl, rfl, rfl, rfl, rfl, rfl, rfl, rfl, rfl, rfl, rfl, rfl⟩
        refine lv_iload_n hx hb dX5_setWish_64 rfl (lv_at hl 0 rfl) ?_
        exact r_iret X hL rfl rfl dX5_setWish_65 (by omega) (by omega) ⟨uS (uS (uA (uA S 0 (upd (S.1 0) (161 + q.toNatClampNeg) v)) 2 (recP (S.1 2) (S.1 0) st)) 12 (nI (recN st + 1))) 15 (nI 0), AP.mk (t := 0) (v := some (.int ((S.1 0) (161 + q.toNatClampNeg)))) (X := upR S st (upd (S.1 0) (161 + q.toNatClampNeg) v)) (by simp [s_set, x_, q_, vI, noS, c_5, c_18]) ⟨rfl, rfl, rfl, rfl, rfl, rfl, rfl, rfl⟩ rfl rfl, hW, hO⟩
      ·
        exact absurd c_33 (by decide)
    ·
      refine lv_iconst (v := nI 2) hx hb dX5_setWish_21 (by decide) ?_
      refine lv_goto (tgt := 26) hx hb dX5_setWish_22 (by decide) ?_
      refine mp_38 X rfl hL hW dX5_setWish_26 (fun H locs hL hW hO1 => ?_)
      have hO := hO.trans hO1
      have hW := MW.cast (S1 := uS S 15 (nI 2)) hW ⟨rfl, rfl, rfl, rfl, rfl, rfl, rfl, rfl, rfl, rfl, rfl, rfl, rfl, rfl, rfl, rfl, rfl⟩
      refine lv_aload_n hx hb dX5_setWish_29 rfl (lv_at hl 0 rfl) ?_
      refine mg_38 X rfl hW dX5_setWish_30 (W.stk (w := (nI 2)) rfl ?_)
      refine n_ifeq (tgt := 38) X dX5_setWish_33 (by decide) (by omega) (fun c_33 => ?_) (fun c_33 => ?_)
      ·
        exact absurd c_33 (by decide)
      ·
        refine lv_iconst (v := nI 0) hx hb dX5_setWish_36 (by decide) ?_
        exact r_iret X hL rfl rfl dX5_setWish_37 (by omega) (by omega) ⟨uS S 15 (nI 2), AP.mk (t := 2) (v := some (.int (nI 0))) (X := S) (by simp [s_set, x_, q_, vI, noS, c_5, c_18]) ⟨rfl, rfl, rfl, rfl, rfl, rfl, rfl, rfl⟩ rfl rfl, hW, hO⟩
  ·
    refine lv_iconst (v := nI 1) hx hb dX5_setWish_8 (by decide) ?_
    refine lv_goto (tgt := 26) hx hb dX5_setWish_9 (by decide) ?_
    refine mp_38 X rfl hL hW dX5_setWish_26 (fun H locs hL hW hO1 => ?_)
    have hO := hO.trans hO1
    have hW := MW.cast (S1 := uS S 15 (nI 1)) hW ⟨rfl, rfl, rfl, rfl, rfl, rfl, rfl, rfl, rfl, rfl, rfl, rfl, rfl, rfl, rfl, rfl, rfl⟩
    refine lv_aload_n hx hb dX5_setWish_29 rfl (lv_at hl 0 rfl) ?_
    refine mg_38 X rfl hW dX5_setWish_30 (W.stk (w := (nI 1)) rfl ?_)
    refine n_ifeq (tgt := 38) X dX5_setWish_33 (by decide) (by omega) (fun c_33 => ?_) (fun c_33 => ?_)
    ·
      exact absurd c_33 (by decide)
    ·
      refine lv_iconst (v := nI 0) hx hb dX5_setWish_36 (by decide) ?_
      exact r_iret X hL rfl rfl dX5_setWish_37 (by omega) (by omega) ⟨uS S 15 (nI 1), AP.mk (t := 1) (v := some (.int (nI 0))) (X := S) (by simp [s_set, x_, q_, vI, noS, c_5]) ⟨rfl, rfl, rfl, rfl, rfl, rfl, rfl, rfl⟩ rfl rfl, hW, hO⟩
theorem vb_X5_setWish : VB yX5_setWish cX5_setWish 4 (some .int) 2 := ⟨q1956, q1957, q111, q1958, ⟨by decide, by decide, by decide +kernel⟩⟩

set_option maxRecDepth 100000 in
set_option maxHeartbeats 4000000 in
theorem ct_X5_setWeight (l : Launch) (g : GT) (o st : Nat) (S : MS) (q v : Int32) (hst : S.2.1 12 = nI st) (hs6 : st ≤ 6) : Ct l g yX5_setWeight cX5_setWeight 4 (some .int) 4 0 0 [.ref o, .int q, .int v] (MW g o S) (fun r H H1 => ∃ S1, AP S1 (s_set 173 (!inB v (nI 0) (nI 9)) S st q v) r ∧ MW g o S1 H1 ∧ Off o H H1) := by
  refine Ct.of (by decide) (Nat.le_of_ble_eq_true rfl) ?_
  intro p e s m args below meth c X hP ls hl
  have hx := X.1
  have hb := X.2.1
  have hKV := X.2.2.2.2.2.2.2.1.1
  have hL : ∀ q ∈ ([] : List Loc), gLo g ≤ q.base := fun _ h => by cases h
  have hl : lv_has ls 4 [(0, .ref o), (1, .int q), (2, .int v)] := hl
  have hW : MW g o S s.heap := hP
  have hO : Off o s.heap s.heap := Off.rfl'
  refine lv_aload_n hx hb dX5_setWeight_0 rfl (lv_at hl 0 rfl) ?_
  refine lv_iload_n hx hb dX5_setWeight_1 rfl (lv_at hl 1 rfl) ?_
  refine Cp.callS (v := .int (bI (!inB q (nI 0) (nI 3)))) (ct_X5_isNoSide l g q ) X hL hl sb_X5_isNoSide q1916 rfl rfl (Nat.le_of_ble_eq_true rfl) dX5_setWeight_2 ⟨Nat.le_of_ble_eq_true rfl, Nat.le_of_ble_eq_true rfl⟩ (by omega) (by omega) trivial (fun locs hL => ?_)
  refine b_ifeq (tgt := 12) X dX5_setWeight_5 (by decide) (fun c_5 => ?_) (fun c_5 => ?_)
  ·
    refine lv_iload_n hx hb dX5_setWeight_12 rfl (lv_at hl 2 rfl) ?_
    refine lv_iconst (v := nI 0) hx hb dX5_setWeight_13 (by decide) ?_
    refine lv_bipush (v := nI 9) hx hb dX5_setWeight_14 (by decide) ?_
    refine Cp.callS (v := .int (bI (inB v (nI 0) (nI 9)))) (ct_X5_in l g v (nI 0) (nI 9) ) X hL hl sb_X5_in q1885 rfl rfl (Nat.le_of_ble_eq_true rfl) dX5_setWeight_16 ⟨Nat.le_of_ble_eq_true rfl, Nat.le_of_ble_eq_true rfl⟩ (by omega) (by omega) trivial (fun locs hL => ?_)
    refine b_ifne (tgt := 26) X dX5_setWeight_19 (by decide) (fun c_19 => ?_) (fun c_19 => ?_)
    ·
      refine lv_iconst (v := nI 0) hx hb dX5_setWeight_26 (by decide) ?_
      refine mp_38 X rfl hL hW dX5_setWeight_27 (fun H locs hL hW hO1 => ?_)
      have hO := hO.trans hO1
      have hW := MW.cast (S1 := uS S 15 (nI 0)) hW ⟨rfl, rfl, rfl, rfl, rfl, rfl, rfl, rfl, rfl, rfl, rfl, rfl, rfl, rfl, rfl, rfl, rfl⟩
      refine lv_aload_n hx hb dX5_setWeight_30 rfl (lv_at hl 0 rfl) ?_
      refine mg_38 X rfl hW dX5_setWeight_31 (W.stk (w := (nI 0)) rfl ?_)
      refine n_ifeq (tgt := 39) X dX5_setWeight_34 (by decide) (by omega) (fun c_34 => ?_) (fun c_34 => ?_)
      ·
        obtain ⟨hqc, hql⟩ := noS_nat c_5
        refine lv_aload_n hx hb dX5_setWeight_39 rfl (lv_at hl 0 rfl) ?_
        refine Ct.callV (ct_X5_record l g o st (uS S 15 (nI 0)) hst (by omega)) X hL hl vb_X5_record q1888 (hW.2.1.recv hKV rfl) rfl rfl (Nat.le_of_ble_eq_true rfl) dX5_setWeight_40 ⟨Nat.le_of_ble_eq_true rfl, Nat.le_of_ble_eq_true rfl⟩ (by omega) (by omega) hW (fun r H1 locs hL hp => ?_)
        obtain ⟨rfl, hW, hO1⟩ := hp
        have hO := hO.trans hO1
        have hW := MW.cast (S1 := uS (uS (uA S 2 (recP (S.1 2) (S.1 0) st)) 12 (nI (recN st + 1))) 15 (nI 0)) hW ⟨rfl, rfl, rfl, rfl, rfl, rfl, rfl, rfl, rfl, rfl, rfl, rfl, rfl, rfl, rfl, rfl, rfl⟩
        refine lv_aload_n hx hb dX5_setWeight_43 rfl (lv_at hl 0 rfl) ?_
        refine mg_7 X rfl hW dX5_setWeight_44 ?_
        refine lv_sipush (v := nI 173) hx hb dX5_setWeight_47 (by decide) ?_
        refine lv_iload_n hx hb dX5_setWeight_50 rfl (lv_at hl 1 rfl) ?_
        refine W.stk (w := (nI q.toNatClampNeg)) hqc ?_
        refine n_iadd X dX5_setWeight_51 ?_
        refine m_ld (v := ((S.1 0) (173 + q.toNatClampNeg))) X hW 0 (by decide) rfl (173 + q.toNatClampNeg) rfl (by show 173 + q.toNatClampNeg < 179; omega) rfl dX5_setWeight_52 ?_
        refine lv_istore_n (lv' := [(3, .int _), (0, .ref _), (1, .int _), (2, .int _)]) hx hb dX5_setWeight_53 rfl hl (by decide) rfl (fun ls hl => ?_)
        refine lv_aload_n hx hb dX5_setWeight_54 rfl (lv_at hl 1 rfl) ?_
        refine mg_7 X rfl hW dX5_setWeight_55 ?_
        refine lv_sipush (v := nI 173) hx hb dX5_setWeight_58 (by decide) ?_
        refine lv_iload_n hx hb dX5_setWeight_61 rfl (lv_at hl 2 rfl) ?_
        refine W.stk (w := (nI q.toNatClampNeg)) hqc ?_
        refine n_iadd X dX5_setWeight_62 ?_
        refine lv_iload_n hx hb dX5_setWeight_63 rfl (lv_at hl 3 rfl) ?_
        refine m_st X hL hW 0 (by decide) rfl (173 + q.toNatClampNeg) rfl (by show 173 + q.toNatClampNeg < 179; omega) dX5_setWeight_64 (fun H locs hL hW hO1 => ?_)
        have hO := hO.trans hO1
        have hW := MW.cast (S1 := uS (uS (uA (uA S 0 (upd (S.1 0) (173 + q.toNatClampNeg) v)) 2 (recP (S.1 2) (S.1 0) st)) 12 (nI (recN st + 1))) 15 (nI 0)) hW ⟨rfl, rfl, rfl, rfl, rfl, rfl, rfl, rfl, rfl, rfl, rfl, rfl, rfl, rfl, rfl, rfl, rfl⟩
        refine lv_iload_n hx hb dX5_setWeight_65 rfl (lv_at hl 0 rfl) ?_
        exact r_iret X hL rfl rfl dX5_setWeight_66 (by omega) (by omega) ⟨uS (uS (uA (uA S 0 (upd (S.1 0) (173 + q.toNatClampNeg) v)) 2 (recP (S.1 2) (S.1 0) st)) 12 (nI (recN st + 1))) 15 (nI 0), AP.mk (t := 0) (v := some (.int ((S.1 0) (173 + q.toNatClampNeg)))) (X := upR S st (upd (S.1 0) (173 + q.toNatClampNeg) v)) (by simp [s_set, x_, q_, vI, noS, c_5, c_19]) ⟨rfl, rfl, rfl, rfl, rfl, rfl, rfl, rfl⟩ rfl rfl, hW, hO⟩
      ·
        exact absurd c_34 (by decide)
    ·
      refine lv_iconst (v := nI 2) hx hb dX5_setWeight_22 (by decide) ?_
      refine lv_goto (tgt := 27) hx hb dX5_setWeight_23 (by decide) ?_
      refine mp_38 X rfl hL hW dX5_setWeight_27 (fun H locs hL hW hO1 => ?_)
      have hO := hO.trans hO1
      have hW := MW.cast (S1 := uS S 15 (nI 2)) hW ⟨rfl, rfl, rfl, rfl, rfl, rfl, rfl, rfl, rfl, rfl, rfl, rfl, rfl, rfl, rfl, rfl, rfl⟩
      refine lv_aload_n hx hb dX5_setWeight_30 rfl (lv_at hl 0 rfl) ?_
      refine mg_38 X rfl hW dX5_setWeight_31 (W.stk (w := (nI 2)) rfl ?_)
      refine n_ifeq (tgt := 39) X dX5_setWeight_34 (by decide) (by omega) (fun c_34 => ?_) (fun c_34 => ?_)
      ·
        exact absurd c_34 (by decide)
      ·
        refine lv_iconst (v := nI 0) hx hb dX5_setWeight_37 (by decide) ?_
        exact r_iret X hL rfl rfl dX5_setWeight_38 (by omega) (by omega) ⟨uS S 15 (nI 2), AP.mk (t := 2) (v := some (.int (nI 0))) (X := S) (by simp [s_set, x_, q_, vI, noS, c_5, c_19]) ⟨rfl, rfl, rfl, rfl, rfl, rfl, rfl, rfl⟩ rfl rfl, hW, hO⟩
  ·
    refine lv_iconst (v := nI 1) hx hb dX5_setWeight_8 (by decide) ?_
    refine lv_goto (tgt := 27) hx hb dX5_setWeight_9 (by decide) ?_
    refine mp_38 X rfl hL hW dX5_setWeight_27 (fun H locs hL hW hO1 => ?_)
    have hO := hO.trans hO1
    have hW := MW.cast (S1 := uS S 15 (nI 1)) hW ⟨rfl, rfl, rfl, rfl, rfl, rfl, rfl, rfl, rfl, rfl, rfl, rfl, rfl, rfl, rfl, rfl, rfl⟩
    refine lv_aload_n hx hb dX5_setWeight_30 rfl (lv_at hl 0 rfl) ?_
    refine mg_38 X rfl hW dX5_setWeight_31 (W.stk (w := (nI 1)) rfl ?_)
    refine n_ifeq (tgt := 39) X dX5_setWeight_34 (by decide) (by omega) (fun c_34 => ?_) (fun c_34 => ?_)
    ·
      exact absurd c_34 (by decide)
    ·
      refine lv_iconst (v := nI 0) hx hb dX5_setWeight_37 (by decide) ?_
      exact r_iret X hL rfl rfl dX5_setWeight_38 (by omega) (by omega) ⟨uS S 15 (nI 1), AP.mk (t := 1) (v := some (.int (nI 0))) (X := S) (by simp [s_set, x_, q_, vI, noS, c_5]) ⟨rfl, rfl, rfl, rfl, rfl, rfl, rfl, rfl⟩ rfl rfl, hW, hO⟩
theorem vb_X5_setWeight : VB yX5_setWeight cX5_setWeight 4 (some .int) 2 := ⟨q1968, q1969, q111, q1970, ⟨by decide, by decide, by decide +kernel⟩⟩

set_option maxRecDepth 100000 in
set_option maxHeartbeats 4000000 in
theorem ct_X5_setBounds (l : Launch) (g : GT) (o n st : Nat) (S : MS) (q a b : Int32) (hN : S.1 0 160 = nI n) (hn : n ≤ 40) (hst : S.2.1 12 = nI st) (hs6 : st ≤ 6) : Ct l g yX5_setBounds cX5_setBounds 4 (some .int) 5 0 0 [.ref o, .int q, .int a, .int b] (MW g o S) (fun r H H1 => ∃ S1, AP S1 (s_bounds S n st q a b) r ∧ MW g o S1 H1 ∧ Off o H H1) := by
  refine Ct.of (by decide) (Nat.le_of_ble_eq_true rfl) ?_
  intro p e s m args below meth c X hP ls hl
  have hx := X.1
  have hb := X.2.1
  have hKV := X.2.2.2.2.2.2.2.1.1
  have hL : ∀ q ∈ ([] : List Loc), gLo g ≤ q.base := fun _ h => by cases h
  have hl : lv_has ls 4 [(0, .ref o), (1, .int q), (2, .int a), (3, .int b)] := hl
  have hW : MW g o S s.heap := hP
  have hO : Off o s.heap s.heap := Off.rfl'
  refine lv_aload_n hx hb dX5_setBounds_0 rfl (lv_at hl 0 rfl) ?_
  refine lv_iload_n hx hb dX5_setBounds_1 rfl (lv_at hl 1 rfl) ?_
  refine Cp.callS (v := .int (bI (!inB q (nI 0) (nI 3)))) (ct_X5_isNoSide l g q ) X hL hl sb_X5_isNoSide q1916 rfl rfl (Nat.le_of_ble_eq_true rfl) dX5_setBounds_2 ⟨Nat.le_of_ble_eq_true rfl, Nat.le_of_ble_eq_true rfl⟩ (by omega) (by omega) trivial (fun locs hL => ?_)
  refine b_ifeq (tgt := 12) X dX5_setBounds_5 (by decide) (fun c_5 => ?_) (fun c_5 => ?_)
  ·
    refine lv_iload_n hx hb dX5_setBounds_12 rfl (lv_at hl 2 rfl) ?_
    refine Cp.callS (v := .int (bI (!inB a (nI 0) (nI 99)))) (ct_X5_isNoValue l g a ) X hL hl sb_X5_isNoValue q1882 rfl rfl (Nat.le_of_ble_eq_true rfl) dX5_setBounds_13 ⟨Nat.le_of_ble_eq_true rfl, Nat.le_of_ble_eq_true rfl⟩ (by omega) (by omega) trivial (fun locs hL => ?_)
    refine b_ifne (tgt := 29) X dX5_setBounds_16 (by decide) (fun c_16 => ?_) (fun c_16 => ?_)
    ·
      refine lv_iconst (v := nI 2) hx hb dX5_setBounds_29 (by decide) ?_
      refine lv_goto (tgt := 34) hx hb dX5_setBounds_30 (by decide) ?_
      refine mp_38 X rfl hL hW dX5_setBounds_34 (fun H locs hL hW hO1 => ?_)
      have hO := hO.trans hO1
      have hW := MW.cast (S1 := uS S 15 (nI 2)) hW ⟨rfl, rfl, rfl, rfl, rfl, rfl, rfl, rfl, rfl, rfl, rfl, rfl, rfl, rfl, rfl, rfl, rfl⟩
      refine lv_aload_n hx hb dX5_setBounds_37 rfl (lv_at hl 0 rfl) ?_
      refine mg_38 X rfl hW dX5_setBounds_38 (W.stk (w := (nI 2)) rfl ?_)
      refine n_ifeq (tgt := 46) X dX5_setBounds_41 (by decide) (by omega) (fun c_41 => ?_) (fun c_41 => ?_)
      ·
        exact absurd c_41 (by decide)
      ·
        refine lv_iconst (v := nI 0) hx hb dX5_setBounds_44 (by decide) ?_
        exact r_iret X hL rfl rfl dX5_setBounds_45 (by omega) (by omega) ⟨uS S 15 (nI 2), AP.mk (t := 2) (v := some (.int (nI 0))) (X := S) (by simp [s_bounds, x_, q_, vI, noS, noV, c_5, c_16]) ⟨rfl, rfl, rfl, rfl, rfl, rfl, rfl, rfl⟩ rfl rfl, hW, hO⟩
    ·
      refine lv_iload_n hx hb dX5_setBounds_19 rfl (lv_at hl 3 rfl) ?_
      refine lv_iload_n hx hb dX5_setBounds_20 rfl (lv_at hl 2 rfl) ?_
      refine lv_bipush (v := nI 99) hx hb dX5_setBounds_21 (by decide) ?_
      refine Cp.callS (v := .int (bI (inB b a (nI 99)))) (ct_X5_in l g b a (nI 99) ) X hL hl sb_X5_in q1885 rfl rfl (Nat.le_of_ble_eq_true rfl) dX5_setBounds_23 ⟨Nat.le_of_ble_eq_true rfl, Nat.le_of_ble_eq_true rfl⟩ (by omega) (by omega) trivial (fun locs hL => ?_)
      refine b_ifne (tgt := 33) X dX5_setBounds_26 (by decide) (fun c_26 => ?_) (fun c_26 => ?_)
      ·
        refine lv_iconst (v := nI 0) hx hb dX5_setBounds_33 (by decide) ?_
        refine mp_38 X rfl hL hW dX5_setBounds_34 (fun H locs hL hW hO1 => ?_)
        have hO := hO.trans hO1
        have hW := MW.cast (S1 := uS S 15 (nI 0)) hW ⟨rfl, rfl, rfl, rfl, rfl, rfl, rfl, rfl, rfl, rfl, rfl, rfl, rfl, rfl, rfl, rfl, rfl⟩
        refine lv_aload_n hx hb dX5_setBounds_37 rfl (lv_at hl 0 rfl) ?_
        refine mg_38 X rfl hW dX5_setBounds_38 (W.stk (w := (nI 0)) rfl ?_)
        refine n_ifeq (tgt := 46) X dX5_setBounds_41 (by decide) (by omega) (fun c_41 => ?_) (fun c_41 => ?_)
        ·
          obtain ⟨hqc, hql⟩ := noS_nat c_5
          refine lv_aload_n hx hb dX5_setBounds_46 rfl (lv_at hl 0 rfl) ?_
          refine Ct.callV (ct_X5_record l g o st (uS S 15 (nI 0)) hst (by omega)) X hL hl vb_X5_record q1888 (hW.2.1.recv hKV rfl) rfl rfl (Nat.le_of_ble_eq_true rfl) dX5_setBounds_47 ⟨Nat.le_of_ble_eq_true rfl, Nat.le_of_ble_eq_true rfl⟩ (by omega) (by omega) hW (fun r H1 locs hL hp => ?_)
          obtain ⟨rfl, hW, hO1⟩ := hp
          have hO := hO.trans hO1
          have hW := MW.cast (S1 := uS (uS (uA S 2 (recP (S.1 2) (S.1 0) st)) 12 (nI (recN st + 1))) 15 (nI 0)) hW ⟨rfl, rfl, rfl, rfl, rfl, rfl, rfl, rfl, rfl, rfl, rfl, rfl, rfl, rfl, rfl, rfl, rfl⟩
          refine lv_aload_n hx hb dX5_setBounds_50 rfl (lv_at hl 0 rfl) ?_
          refine mg_7 X rfl hW dX5_setBounds_51 ?_
          refine lv_sipush (v := nI 165) hx hb dX5_setBounds_54 (by decide) ?_
          refine lv_iload_n hx hb dX5_setBounds_57 rfl (lv_at hl 1 rfl) ?_
          refine W.stk (w := (nI q.toNatClampNeg)) hqc ?_
          refine n_iadd X dX5_setBounds_58 ?_
          refine lv_iload_n hx hb dX5_setBounds_59 rfl (lv_at hl 2 rfl) ?_
          refine m_st X hL hW 0 (by decide) rfl (165 + q.toNatClampNeg) rfl (by show 165 + q.toNatClampNeg < 179; omega) dX5_setBounds_60 (fun H locs hL hW hO1 => ?_)
          have hO := hO.trans hO1
          have hW := MW.cast (S1 := uS (uS (uA (uA S 0 (upd (S.1 0) (165 + q.toNatClampNeg) a)) 2 (recP (S.1 2) (S.1 0) st)) 12 (nI (recN st + 1))) 15 (nI 0)) hW ⟨rfl, rfl, rfl, rfl, rfl, rfl, rfl, rfl, rfl, rfl, rfl, rfl, rfl, rfl, rfl, rfl, rfl⟩
          refine lv_aload_n hx hb dX5_setBounds_61 rfl (lv_at hl 0 rfl) ?_
          refine mg_7 X rfl hW dX5_setBounds_62 ?_
          refine lv_sipush (v := nI 169) hx hb dX5_setBounds_65 (by decide) ?_
          refine lv_iload_n hx hb dX5_setBounds_68 rfl (lv_at hl 1 rfl) ?_
          refine W.stk (w := (nI q.toNatClampNeg)) hqc ?_
          refine n_iadd X dX5_setBounds_69 ?_
          refine lv_iload_n hx hb dX5_setBounds_70 rfl (lv_at hl 3 rfl) ?_
          refine m_st X hL hW 0 (by decide) rfl (169 + q.toNatClampNeg) rfl (by show 169 + q.toNatClampNeg < 179; omega) dX5_setBounds_71 (fun H locs hL hW hO1 => ?_)
          have hO := hO.trans hO1
          have hW := MW.cast (S1 := uS (uS (uA (uA S 0 (upd (upd (S.1 0) (165 + q.toNatClampNeg) a) (169 + q.toNatClampNeg) b)) 2 (recP (S.1 2) (S.1 0) st)) 12 (nI (recN st + 1))) 15 (nI 0)) hW ⟨rfl, rfl, rfl, rfl, rfl, rfl, rfl, rfl, rfl, rfl, rfl, rfl, rfl, rfl, rfl, rfl, rfl⟩
          refine lv_aload_n hx hb dX5_setBounds_72 rfl (lv_at hl 0 rfl) ?_
          refine Cp.callV (v := .int (nI (cnt (cB (upd (upd (S.1 0) (165 + q.toNatClampNeg) a) (169 + q.toNatClampNeg) b)) n))) (ct_X5_countingOnes l g o n (uS (uS (uA (uA S 0 (upd (upd (S.1 0) (165 + q.toNatClampNeg) a) (169 + q.toNatClampNeg) b)) 2 (recP (S.1 2) (S.1 0) st)) 12 (nI (recN st + 1))) 15 (nI 0)) (show (upd (upd (S.1 0) (165 + q.toNatClampNeg) a) (169 + q.toNatClampNeg) b) 160 = nI n from by rw [upd_n _ _ (by omega), upd_n _ _ (by omega)]; exact hN) hn) X hL hl vb_X5_countingOnes q1963 (hW.2.1.recv hKV rfl) rfl rfl (Nat.le_of_ble_eq_true rfl) dX5_setBounds_73 ⟨Nat.le_of_ble_eq_true rfl, Nat.le_of_ble_eq_true rfl⟩ (by omega) (by omega) hW (fun locs hL => ?_)
          exact r_iret X hL rfl rfl dX5_setBounds_76 (by omega) (by omega) ⟨uS (uS (uA (uA S 0 (upd (upd (S.1 0) (165 + q.toNatClampNeg) a) (169 + q.toNatClampNeg) b)) 2 (recP (S.1 2) (S.1 0) st)) 12 (nI (recN st + 1))) 15 (nI 0), AP.mk (t := 0) (v := some (.int (nI (cnt (cB (upd (upd (S.1 0) (165 + q.toNatClampNeg) a) (169 + q.toNatClampNeg) b)) n)))) (X := upR S st (upd (upd (S.1 0) (165 + q.toNatClampNeg) a) (169 + q.toNatClampNeg) b)) (by simp [s_bounds, x_, q_, vI, noS, noV, c_5, c_16, c_26]) ⟨rfl, rfl, rfl, rfl, rfl, rfl, rfl, rfl⟩ rfl rfl, hW, hO⟩
        ·
          exact absurd c_41 (by decide)
      ·
        refine lv_iconst (v := nI 2) hx hb dX5_setBounds_29 (by decide) ?_
        refine lv_goto (tgt := 34) hx hb dX5_setBounds_30 (by decide) ?_
        refine mp_38 X rfl hL hW dX5_setBounds_34 (fun H locs hL hW hO1 => ?_)
        have hO := hO.trans hO1
        have hW := MW.cast (S1 := uS S 15 (nI 2)) hW ⟨rfl, rfl, rfl, rfl, rfl, rfl, rfl, rfl, rfl, rfl, rfl, rfl, rfl, rfl, rfl, rfl, rfl⟩
        refine lv_aload_n hx hb dX5_setBounds_37 rfl (lv_at hl 0 rfl) ?_
        refine mg_38 X rfl hW dX5_setBounds_38 (W.stk (w := (nI 2)) rfl ?_)
        refine n_ifeq (tgt := 46) X dX5_setBounds_41 (by decide) (by omega) (fun c_41 => ?_) (fun c_41 => ?_)
        ·
          exact absurd c_41 (by decide)
        ·
          refine lv_iconst (v := nI 0) hx hb dX5_setBounds_44 (by decide) ?_
          exact r_iret X hL rfl rfl dX5_setBounds_45 (by omega) (by omega) ⟨uS S 15 (nI 2), AP.mk (t := 2) (v := some (.int (nI 0))) (X := S) (by simp [s_bounds, x_, q_, vI, noS, noV, c_5, c_16, c_26]) ⟨rfl, rfl, rfl, rfl, rfl, rfl, rfl, rfl⟩ rfl rfl, hW, hO⟩
  ·
    refine lv_iconst (v := nI 1) hx hb dX5_setBounds_8 (by decide) ?_
    refine lv_goto (tgt := 34) hx hb dX5_setBounds_9 (by decide) ?_
    refine mp_38 X rfl hL hW dX5_setBounds_34 (fun H locs hL hW hO1 => ?_)
    have hO := hO.trans hO1
    have hW := MW.cast (S1 := uS S 15 (nI 1)) hW ⟨rfl, rfl, rfl, rfl, rfl, rfl, rfl, rfl, rfl, rfl, rfl, rfl, rfl, rfl, rfl, rfl, rfl⟩
    refine lv_aload_n hx hb dX5_setBounds_37 rfl (lv_at hl 0 rfl) ?_
    refine mg_38 X rfl hW dX5_setBounds_38 (W.stk (w := (nI 1)) rfl ?_)
    refine n_ifeq (tgt := 46) X dX5_setBounds_41 (by decide) (by omega) (fun c_41 => ?_) (fun c_41 => ?_)
    ·
      exact absurd c_41 (by decide)
    ·
      refine lv_iconst (v := nI 0) hx hb dX5_setBounds_44 (by decide) ?_
      exact r_iret X hL rfl rfl dX5_setBounds_45 (by omega) (by omega) ⟨uS S 15 (nI 1), AP.mk (t := 1) (v := some (.int (nI 0))) (X := S) (by simp [s_bounds, x_, q_, vI, noS, noV, c_5]) ⟨rfl, rfl, rfl, rfl, rfl, rfl, rfl, rfl⟩ rfl rfl, hW, hO⟩
theorem vb_X5_setBounds : VB yX5_setBounds cX5_setBounds 4 (some .int) 3 := ⟨q1960, q1961, q111, q1962, ⟨by decide, by decide, by decide +kernel⟩⟩
