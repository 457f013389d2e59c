/-! the OfferSky's digest -/
/-- a state of no cell of Q -/
def StW (g : GT) (Q : Nat → Prop) (r : Nat → Int32) (n : Nat) (x : Nat → Nat) (a : Nat) (H : Heap) : Prop := ∃ P I, StR g P I r n x a H ∧ (∀ q, P q → ¬ Q q) ∧ (∀ q, I q → ¬ Q q) ∧ ¬ Q (gE g)
theorem StW.keep {g : GT} {Q : Nat → Prop} {r : Nat → Int32} {n : Nat} {x : Nat → Nat} {a : Nat} {H H1 : Heap} (h : StW g Q r n x a H) (c : Chg Q H H1) : StW g Q r n x a H1 := by
  obtain ⟨P, I, h1, h2, h3, h4⟩ := h
  exact ⟨P, I, h1.keep c h2 h3 h4, h2, h3, h4⟩
theorem StW.ext {g : GT} {Q : Nat → Prop} {r : Nat → Int32} {n : Nat} {x : Nat → Nat} {a : Nat} {H H1 : Heap} (h : StW g Q r n x a H) (c : Ext H H1) : StW g Q r n x a H1 := by
  obtain ⟨P, I, h1, h2, h3, h4⟩ := h
  exact ⟨P, I, h1.ext c, h2, h3, h4⟩
theorem StW.q {g : GT} {Q : Nat → Prop} {r : Nat → Int32} {n : Nat} {x : Nat → Nat} {a : Nat} {H : Heap} (h : StW g Q r n x a H) : StQ g r n x a H := by
  obtain ⟨P, I, h1, h2⟩ := h
  exact h1.q
theorem StW.of {g : GT} {Q : Nat → Prop} {r : Nat → Int32} {n : Nat} {x : Nat → Nat} {a : Nat} {H : Heap} (h : StW g Q r n x a H) : ∃ I, (∀ j, j < n → OffR g I (mv r j) (x j) H) ∧ ∀ q, I q → ¬ Q q := by
  obtain ⟨P, I, h1, h2, h3, h4⟩ := h
  exact ⟨I, h1.facts.2.2.1, h3⟩
theorem SkB.dig {g : GT} {K : Nat → Nat} {fp fk fb : Nat → Int32} {st ln : Nat} {hf hs : Bool} {o sta dq sl bf : Nat} {xs : Nat → Nat} {fs : Nat → Option Nat} {hh h2 : Int64} {H H1 : Heap} (h : SkB g K fp fk fb st ln hf hs o sta dq sl bf xs fs hh H) (ob : Ob g o 1 [.ref sta, .ref dq, .ref sl, .ref bf, .long h2] H1) (c2 : Chg (fun q => q = o) H H1) (hlo : gE g < gLo g) : SkB g K fp fk fb st ln hf hs o sta dq sl bf xs fs h2 H1 := by
  obtain ⟨⟨a1, a2, a3, a4, a5, a6⟩, b, b2, b3, x, y, z⟩ := h
  have k : ∀ q, K q ≠ 1 → ¬ q = o := fun q hq e => hq (by rw [e]; exact a2)
  refine ⟨⟨ob, a2, a3, a4, a5, a6⟩, b.keep c2 (fun q hq => k q (by omega)), b2.keep c2 (fun q hq => k q (by omega)), b3.chg c2 (Ne.symm a4), fun j hj => ⟨(x j hj).1, (x j hj).2.elim fun m hm => ⟨m, hm.keep c2 (fun q hq => k q (by omega)) (fun q hq => k q (by omega)) (by omega)⟩⟩, y, fun q hq => if_map (z q hq) (fun ⟨w, m, u1, u2, u3, u4⟩ => ⟨w, m, u1, u2, u3, u4.keep c2 (fun q hq => k q (by omega)) (fun q hq => k q (by omega)) (by omega)⟩) (fun u => u)⟩
/-- the world as the digest sees it, and back -/
theorem SkR.vd {g : GT} {F : Nat → Prop} {S : MS} {n st ln : Nat} {hf hs : Bool} {o : Nat} {H : Heap} (h : SkR g F S n st ln hf hs o H) (hE : gE g < gLo g) : ∃ (sta dq sl bf : Nat) (x : Nat → Nat) (hh : Int64) (PB PD : Nat → Prop) (xs : Nat → Nat) (fs : Nat → Option Nat), Ob g o 1 [.ref sta, .ref dq, .ref sl, .ref bf, .long hh] H ∧ StW g (fun q => q = o) (S.1 0) n x sta H ∧ RO (S.1 0) n ∧ n ≤ 40 ∧ (BufR g PB (S.1 4) ln bf H ∧ ∀ q, PB q → ¬ q = o) ∧ (DqR g PD xs st dq H ∧ ∀ q, PD q → ¬ q = o) ∧ (Aq g sl 5 2 fs H ∧ sl ≠ o) ∧ (fs 0 = none ↔ hf = false) ∧ (fs 1 = none ↔ hs = false) ∧ gLo g ≤ o ∧ (∀ q, F q → ¬ q = o) ∧ (∀ H1 h2, Chg (fun q => q = o) H H1 → Ob g o 1 [.ref sta, .ref dq, .ref sl, .ref bf, .long h2] H1 → SkR g F S n st ln hf hs o H1) := by
  obtain ⟨sta', dq', sl', bf', x', hh', PB', PD', xs', fs', -, -, v3, v4, -, -, -, v8, v9, v10, v11⟩ := h.v
  obtain ⟨K, sta, dq, sl, bf, xs, fs, hh, h1, h2, h3, h4, h5⟩ := h
  have h3' := h3
  obtain ⟨⟨a1, a2, a3, a4, a5, a6⟩, b, b2, b3, x, y, z⟩ := h3
  have k : ∀ q, K q ≠ 1 → ¬ q = o := fun q hq e => hq (by rw [e]; exact a2)
  obtain ⟨hR, xx, hxx⟩ := id h4
  refine ⟨sta, dq, sl, bf, xx, hh, _, _, xs, fs, a1, ⟨_, _, hxx, fun q hq => k q (by omega), fun q hq => k q (by omega), by omega⟩, v3, v4, ⟨b2, fun q hq => k q (by omega)⟩, ⟨b, fun q hq => k q (by omega)⟩, ⟨b3, Ne.symm a4⟩, ?_, ?_, a5, fun q hq e => ?_, fun H1 h9 c ob => ⟨K, sta, dq, sl, bf, xs, fs, h9, h1, fun q hq => Nat.lt_of_lt_of_le (h2 q hq) c.1, h3'.dig ob c hE, h4.keep c (fun q hq => k q (by omega)) (fun q hq => k q (by omega)) (by omega), h5⟩⟩
  · have := z 0 (by omega)
    rw [if_pos rfl] at this
    cases hf
    · rw [if_neg (by decide)] at this; exact ⟨fun _ => rfl, fun _ => this⟩
    · rw [if_pos rfl] at this
      obtain ⟨w, m, u, -⟩ := this
      exact ⟨fun e => by rw [u] at e; (cases e), fun e => by cases e⟩
  · have := z 1 (by omega)
    rw [show (if (1 : Nat) = 0 then hf else hs) = hs from if_neg (by decide)] at this
    cases hs
    · rw [if_neg (by decide)] at this; exact ⟨fun _ => rfl, fun _ => this⟩
    · rw [if_pos rfl] at this
      obtain ⟨w, m, u, -⟩ := this
      exact ⟨fun e => by rw [u] at e; (cases e), fun e => by cases e⟩
  · have := h1 q (Or.inr hq)
    rw [e, a2] at this; omega
theorem sl_t {fs : Nat → Option Nat} {b : Bool} {i w : Nat} (h : fs i = none ↔ b = false) (e : fs i = some w) : b = true := by
  cases b
  · exact absurd (h.mpr rfl) (by rw [e]; simp)
  · rfl
theorem bI_L (b : Bool) : (bI b).toInt64 = bL b := by cases b <;> decide

set_option maxRecDepth 100000 in
set_option maxHeartbeats 4000000 in
theorem ct_X1_mix (l : Launch) (g : GT) (o sta dq sl bf : Nat) (hh v : Int64) (loo : gLo g ≤ o) : Ct l g yX1_mix cX1_mix 3 none 1 0 0 [.ref o, .long v] (Ob g o 1 [.ref sta, .ref dq, .ref sl, .ref bf, .long hh]) (fun r H H1 => r = none ∧ Ob g o 1 [.ref sta, .ref dq, .ref sl, .ref bf, .long (31 * hh + v)] H1 ∧ On o H H1) := by
  refine Ct.of (by decide) (Nat.le_of_ble_eq_true rfl) ?_
  intro p e s m args below meth c X hP ls hl
  have hx := X.1
  have hb := X.2.1
  have hKV := X.2.2.2.2.2.2.2.1.1
  have hL : ∀ q ∈ ([] : List Loc), gLo g ≤ q.base := fun _ h => by cases h
  have ob := hP
  have hl : lv_has ls 3 [(0, .ref o), (1, .long v)] := hl
  refine lv_aload_n hx hb dX1_mix_0 rfl (lv_at hl 0 rfl) ?_
  refine lv_ldc2 hx hb X.2.2.2.1 (X.2.2.2.2.1 _ q1152) dX1_mix_1 ?_
  refine lv_aload_n hx hb dX1_mix_4 rfl (lv_at hl 0 rfl) ?_
  refine r_get (C := RX1) (T := TX1) (N := 5) (ci := 1) X in_X1 rfl 4 (Nat.le_of_ble_eq_true rfl) q285 (fun _ h => h) ob rfl dX1_mix_5 ?_
  refine lv_lmul hx hb dX1_mix_8 ?_
  refine lv_lload_n hx hb dX1_mix_9 rfl (lv_at hl 1 rfl) ?_
  refine lv_ladd hx hb dX1_mix_10 ?_
  refine r_put (C := RX1) (T := TX1) (N := 5) (ci := 1) X in_X1 tyX1 tyX1_ok nmX1 rfl 4 (Nat.le_of_ble_eq_true rfl) q285 (fun _ h => h) rfl hL ob loo rfl rfl (Nat.le_of_ble_eq_true rfl) dX1_mix_11 (fun H locs hL h1 h2 => ?_)
  have ob : Ob g o 1 [.ref sta, .ref dq, .ref sl, .ref bf, .long ((31 * hh) + v)] H := h1
  have hon := h2
  exact r_vret X hL dX1_mix_14 (by omega) (by omega) ⟨rfl, ob, hon⟩
theorem vb_X1_mix : VB yX1_mix cX1_mix 3 none 1 := ⟨q1150, qs27, q99, q1151, ⟨by decide, by decide, by decide +kernel⟩⟩

set_option maxRecDepth 100000 in
set_option maxHeartbeats 4000000 in
theorem ct_X1_mixSides (l : Launch) (g : GT) (ro : Nat → Int32) (n : Nat) (x : Nat → Nat) (o sta dq sl bf : Nat) (hh : Int64) (loo : gLo g ≤ o) (hn : n ≤ 40) (hR : RO ro n) : Ct l g yX1_mixSides cX1_mixSides 2 none 15 9 141 [.ref o] (fun H => Ob g o 1 [.ref sta, .ref dq, .ref sl, .ref bf, .long hh] H ∧ StW g (fun q => q = o) ro n x sta H) (fun r H H1 => r = none ∧ Ob g o 1 [.ref sta, .ref dq, .ref sl, .ref bf, .long (mxs hh (sidL ro ++ preL ro n))] H1 ∧ StW g (fun q => q = o) ro n x sta H1 ∧ Chg (fun q => q = o) H H1) := by
  refine Ct.of (by decide) (Nat.le_of_ble_eq_true rfl) ?_
  intro p e s m args below meth c X hP ls hl
  have hx := X.1
  have hb := X.2.1
  have hKV := X.2.2.2.2.2.2.2.1.1
  have hL : ∀ q ∈ ([] : List Loc), gLo g ≤ q.base := fun _ h => by cases h
  obtain ⟨ob, hst⟩ := hP
  have hw := hR.w
  have hsq := hst.q
  obtain ⟨sb, sd, PG, PS, obs, hbg, hsd, hof, hinj⟩ := id hsq
  obtain ⟨a1, a2, a3, a4, o0, w1, w2, w3, w4⟩ := rds hsd
  have hl : lv_has ls 2 [(0, .ref o)] := hl
  have hC : Chg (fun q => q = o) s.heap s.heap := Chg.rfl'
  have hgE := hKV.gE
  refine lv_iconst (v := nI 0) hx hb dX1_mixSides_0 (by decide) ?_
  refine lv_istore_n (lv' := [(1, .int _), (0, .ref _)]) hx hb dX1_mixSides_1 rfl hl (by decide) rfl (fun ls hl => ?_)
  refine lv_iload_n hx hb dX1_mixSides_2 rfl (lv_at hl 0 rfl) ?_
  refine lv_iconst (v := nI 4) hx hb dX1_mixSides_3 (by decide) ?_
  refine n_icmp_ge (tgt := 81) X dX1_mixSides_4 (by decide) (by omega) (by omega) (fun c_4 => ?_) (fun c_4 => ?_)
  ·
    exact absurd c_4 (by decide)
  ·
    refine lv_aload_n hx hb dX1_mixSides_7 rfl (lv_at hl 1 rfl) ?_
    refine lv_aload_n hx hb dX1_mixSides_8 rfl (lv_at hl 1 rfl) ?_
    refine r_get (C := RX1) (T := TX1) (N := 5) (ci := 1) X in_X1 rfl 0 (Nat.le_of_ble_eq_true rfl) q280 (fun _ h => h) ob rfl dX1_mixSides_9 ?_
    refine r_getN (C := RX2) (T := TX2) (N := 4) (ci := 2) X in_X2 rfl 1 (Nat.le_of_ble_eq_true rfl) q213 (fun _ h => h) obs rfl dX1_mixSides_12 ?_
    refine r_getN (C := RX4) (T := TX4) (N := 4) (ci := 4) X in_X4 rfl 0 (Nat.le_of_ble_eq_true rfl) q191 (fun _ h => h) o0 rfl dX1_mixSides_15 ?_
    refine lv_iload_n hx hb dX1_mixSides_18 rfl (lv_at hl 0 rfl) ?_
    refine r_ild X w1 0 (nI_cl (by omega) rfl) (nI_nn (by omega) rfl) (by omega) dX1_mixSides_19 ?_
    refine lv_i2l hx hb dX1_mixSides_20 rfl ?_
    refine Ct.callV (ct_X1_mix l g o sta dq sl bf hh (((mw ro) 0).toInt64) loo) X hL hl vb_X1_mix q1148 (ob.recv hKV rfl) rfl rfl (Nat.le_of_ble_eq_true rfl) dX1_mixSides_21 ⟨Nat.le_of_ble_eq_true rfl, Nat.le_of_ble_eq_true rfl⟩ (by omega) (by omega) ob (fun r H locs hL hp => ?_)
    obtain ⟨rfl, ob, hon⟩ := hp
    obtain ⟨h1, eh1⟩ : ∃ z, z = 31 * hh + (((mw ro) 0).toInt64) := ⟨_, rfl⟩
    rw [← eh1] at ob
    have hst := hst.keep (hon.chg rfl)
    have hC := hC.trans (hon.chg rfl)
    have hsq := hst.q
    obtain ⟨sb, sd, PG, PS, obs, hbg, hsd, hof, hinj⟩ := id hsq
    obtain ⟨a1, a2, a3, a4, o0, w1, w2, w3, w4⟩ := rds hsd
    refine lv_aload_n hx hb dX1_mixSides_24 rfl (lv_at hl 1 rfl) ?_
    refine lv_aload_n hx hb dX1_mixSides_25 rfl (lv_at hl 1 rfl) ?_
    refine r_get (C := RX1) (T := TX1) (N := 5) (ci := 1) X in_X1 rfl 0 (Nat.le_of_ble_eq_true rfl) q280 (fun _ h => h) ob rfl dX1_mixSides_26 ?_
    refine r_getN (C := RX2) (T := TX2) (N := 4) (ci := 2) X in_X2 rfl 1 (Nat.le_of_ble_eq_true rfl) q213 (fun _ h => h) obs rfl dX1_mixSides_29 ?_
    refine r_getN (C := RX4) (T := TX4) (N := 4) (ci := 4) X in_X4 rfl 1 (Nat.le_of_ble_eq_true rfl) q194 (fun _ h => h) o0 rfl dX1_mixSides_32 ?_
    refine lv_iload_n hx hb dX1_mixSides_35 rfl (lv_at hl 0 rfl) ?_
    refine r_ild X w2 0 (nI_cl (by omega) rfl) (nI_nn (by omega) rfl) (by omega) dX1_mixSides_36 ?_
    refine lv_i2l hx hb dX1_mixSides_37 rfl ?_
    refine Ct.callV (ct_X1_mix l g o sta dq sl bf h1 (((mle ro) 0).toInt64) loo) X hL hl vb_X1_mix q1148 (ob.recv hKV rfl) rfl rfl (Nat.le_of_ble_eq_true rfl) dX1_mixSides_38 ⟨Nat.le_of_ble_eq_true rfl, Nat.le_of_ble_eq_true rfl⟩ (by omega) (by omega) ob (fun r H locs hL hp => ?_)
    obtain ⟨rfl, ob, hon⟩ := hp
    obtain ⟨h2, eh2⟩ : ∃ z, z = 31 * h1 + (((mle ro) 0).toInt64) := ⟨_, rfl⟩
    rw [← eh2] at ob
    have hst := hst.keep (hon.chg rfl)
    have hC := hC.trans (hon.chg rfl)
    have hsq := hst.q
    obtain ⟨sb, sd, PG, PS, obs, hbg, hsd, hof, hinj⟩ := id hsq
    obtain ⟨a1, a2, a3, a4, o0, w1, w2, w3, w4⟩ := rds hsd
    refine lv_aload_n hx hb dX1_mixSides_41 rfl (lv_at hl 1 rfl) ?_
    refine lv_aload_n hx hb dX1_mixSides_42 rfl (lv_at hl 1 rfl) ?_
    refine r_get (C := RX1) (T := TX1) (N := 5) (ci := 1) X in_X1 rfl 0 (Nat.le_of_ble_eq_true rfl) q280 (fun _ h => h) ob rfl dX1_mixSides_43 ?_
    refine r_getN (C := RX2) (T := TX2) (N := 4) (ci := 2) X in_X2 rfl 1 (Nat.le_of_ble_eq_true rfl) q213 (fun _ h => h) obs rfl dX1_mixSides_46 ?_
    refine r_getN (C := RX4) (T := TX4) (N := 4) (ci := 4) X in_X4 rfl 2 (Nat.le_of_ble_eq_true rfl) q197 (fun _ h => h) o0 rfl dX1_mixSides_49 ?_
    refine lv_iload_n hx hb dX1_mixSides_52 rfl (lv_at hl 0 rfl) ?_
    refine r_ild X w3 0 (nI_cl (by omega) rfl) (nI_nn (by omega) rfl) (by omega) dX1_mixSides_53 ?_
    refine lv_i2l hx hb dX1_mixSides_54 rfl ?_
    refine Ct.callV (ct_X1_mix l g o sta dq sl bf h2 (((mgr ro) 0).toInt64) loo) X hL hl vb_X1_mix q1148 (ob.recv hKV rfl) rfl rfl (Nat.le_of_ble_eq_true rfl) dX1_mixSides_55 ⟨Nat.le_of_ble_eq_true rfl, Nat.le_of_ble_eq_true rfl⟩ (by omega) (by omega) ob (fun r H locs hL hp => ?_)
    obtain ⟨rfl, ob, hon⟩ := hp
    obtain ⟨h3, eh3⟩ : ∃ z, z = 31 * h2 + (((mgr ro) 0).toInt64) := ⟨_, rfl⟩
    rw [← eh3] at ob
    have hst := hst.keep (hon.chg rfl)
    have hC := hC.trans (hon.chg rfl)
    have hsq := hst.q
    obtain ⟨sb, sd, PG, PS, obs, hbg, hsd, hof, hinj⟩ := id hsq
    obtain ⟨a1, a2, a3, a4, o0, w1, w2, w3, w4⟩ := rds hsd
    refine lv_aload_n hx hb dX1_mixSides_58 rfl (lv_at hl 1 rfl) ?_
    refine lv_aload_n hx hb dX1_mixSides_59 rfl (lv_at hl 1 rfl) ?_
    refine r_get (C := RX1) (T := TX1) (N := 5) (ci := 1) X in_X1 rfl 0 (Nat.le_of_ble_eq_true rfl) q280 (fun _ h => h) ob rfl dX1_mixSides_60 ?_
    refine r_getN (C := RX2) (T := TX2) (N := 4) (ci := 2) X in_X2 rfl 1 (Nat.le_of_ble_eq_true rfl) q213 (fun _ h => h) obs rfl dX1_mixSides_63 ?_
    refine r_getN (C := RX4) (T := TX4) (N := 4) (ci := 4) X in_X4 rfl 3 (Nat.le_of_ble_eq_true rfl) q199 (fun _ h => h) o0 rfl dX1_mixSides_66 ?_
    refine lv_iload_n hx hb dX1_mixSides_69 rfl (lv_at hl 0 rfl) ?_
    refine r_ild X w4 0 (nI_cl (by omega) rfl) (nI_nn (by omega) rfl) (by omega) dX1_mixSides_70 ?_
    refine lv_i2l hx hb dX1_mixSides_71 rfl ?_
    refine Ct.callV (ct_X1_mix l g o sta dq sl bf h3 (((mwe ro) 0).toInt64) loo) X hL hl vb_X1_mix q1148 (ob.recv hKV rfl) rfl rfl (Nat.le_of_ble_eq_true rfl) dX1_mixSides_72 ⟨Nat.le_of_ble_eq_true rfl, Nat.le_of_ble_eq_true rfl⟩ (by omega) (by omega) ob (fun r H locs hL hp => ?_)
    obtain ⟨rfl, ob, hon⟩ := hp
    obtain ⟨h4, eh4⟩ : ∃ z, z = 31 * h3 + (((mwe ro) 0).toInt64) := ⟨_, rfl⟩
    rw [← eh4] at ob
    have hst := hst.keep (hon.chg rfl)
    have hC := hC.trans (hon.chg rfl)
    have hsq := hst.q
    obtain ⟨sb, sd, PG, PS, obs, hbg, hsd, hof, hinj⟩ := id hsq
    obtain ⟨a1, a2, a3, a4, o0, w1, w2, w3, w4⟩ := rds hsd
    refine lv_iinc (v := nI (1)) (lv' := [(1, .int _), (0, .ref _)]) hx hb dX1_mixSides_75 hl (k := 0) rfl (nI_iinc _ 1 rfl) (by decide) rfl (fun ls hl => ?_)
    refine lv_goto (tgt := 2) hx hb dX1_mixSides_78 (by decide) ?_
    refine lv_iload_n hx hb dX1_mixSides_2 rfl (lv_at hl 0 rfl) ?_
    refine lv_iconst (v := nI 4) hx hb dX1_mixSides_3 (by decide) ?_
    refine n_icmp_ge (tgt := 81) X dX1_mixSides_4 (by decide) (by omega) (by omega) (fun c_4 => ?_) (fun c_4 => ?_)
    ·
      exact absurd c_4 (by decide)
    ·
      refine lv_aload_n hx hb dX1_mixSides_7 rfl (lv_at hl 1 rfl) ?_
      refine lv_aload_n hx hb dX1_mixSides_8 rfl (lv_at hl 1 rfl) ?_
      refine r_get (C := RX1) (T := TX1) (N := 5) (ci := 1) X in_X1 rfl 0 (Nat.le_of_ble_eq_true rfl) q280 (fun _ h => h) ob rfl dX1_mixSides_9 ?_
      refine r_getN (C := RX2) (T := TX2) (N := 4) (ci := 2) X in_X2 rfl 1 (Nat.le_of_ble_eq_true rfl) q213 (fun _ h => h) obs rfl dX1_mixSides_12 ?_
      refine r_getN (C := RX4) (T := TX4) (N := 4) (ci := 4) X in_X4 rfl 0 (Nat.le_of_ble_eq_true rfl) q191 (fun _ h => h) o0 rfl dX1_mixSides_15 ?_
      refine lv_iload_n hx hb dX1_mixSides_18 rfl (lv_at hl 0 rfl) ?_
      refine r_ild X w1 1 (nI_cl (by omega) rfl) (nI_nn (by omega) rfl) (by omega) dX1_mixSides_19 ?_
      refine lv_i2l hx hb dX1_mixSides_20 rfl ?_
      refine Ct.callV (ct_X1_mix l g o sta dq sl bf h4 (((mw ro) 1).toInt64) loo) X hL hl vb_X1_mix q1148 (ob.recv hKV rfl) rfl rfl (Nat.le_of_ble_eq_true rfl) dX1_mixSides_21 ⟨Nat.le_of_ble_eq_true rfl, Nat.le_of_ble_eq_true rfl⟩ (by omega) (by omega) ob (fun r H locs hL hp => ?_)
      obtain ⟨rfl, ob, hon⟩ := hp
      obtain ⟨h5, eh5⟩ : ∃ z, z = 31 * h4 + (((mw ro) 1).toInt64) := ⟨_, rfl⟩
      rw [← eh5] at ob
      have hst := hst.keep (hon.chg rfl)
      have hC := hC.trans (hon.chg rfl)
      have hsq := hst.q
      obtain ⟨sb, sd, PG, PS, obs, hbg, hsd, hof, hinj⟩ := id hsq
      obtain ⟨a1, a2, a3, a4, o0, w1, w2, w3, w4⟩ := rds hsd
      refine lv_aload_n hx hb dX1_mixSides_24 rfl (lv_at hl 1 rfl) ?_
      refine lv_aload_n hx hb dX1_mixSides_25 rfl (lv_at hl 1 rfl) ?_
      refine r_get (C := RX1) (T := TX1) (N := 5) (ci := 1) X in_X1 rfl 0 (Nat.le_of_ble_eq_true rfl) q280 (fun _ h => h) ob rfl dX1_mixSides_26 ?_
      refine r_getN (C := RX2) (T := TX2) (N := 4) (ci := 2) X in_X2 rfl 1 (Nat.le_of_ble_eq_true rfl) q213 (fun _ h => h) obs rfl dX1_mixSides_29 ?_
      refine r_getN (C := RX4) (T := TX4) (N := 4) (ci := 4) X in_X4 rfl 1 (Nat.le_of_ble_eq_true rfl) q194 (fun _ h => h) o0 rfl dX1_mixSides_32 ?_
      refine lv_iload_n hx hb dX1_mixSides_35 rfl (lv_at hl 0 rfl) ?_
      refine r_ild X w2 1 (nI_cl (by omega) rfl) (nI_nn (by omega) rfl) (by omega) dX1_mixSides_36 ?_
      refine lv_i2l hx hb dX1_mixSides_37 rfl ?_
      refine Ct.callV (ct_X1_mix l g o sta dq sl bf h5 (((mle ro) 1).toInt64) loo) X hL hl vb_X1_mix q1148 (ob.recv hKV rfl) rfl rfl (Nat.le_of_ble_eq_true rfl) dX1_mixSides_38 ⟨Nat.le_of_ble_eq_true rfl, Nat.le_of_ble_eq_true rfl⟩ (by omega) (by omega) ob (fun r H locs hL hp => ?_)
      obtain ⟨rfl, ob, hon⟩ := hp
      obtain ⟨h6, eh6⟩ : ∃ z, z = 31 * h5 + (((mle ro) 1).toInt64) := ⟨_, rfl⟩
      rw [← eh6] at ob
      have hst := hst.keep (hon.chg rfl)
      have hC := hC.trans (hon.chg rfl)
      have hsq := hst.q
      obtain ⟨sb, sd, PG, PS, obs, hbg, hsd, hof, hinj⟩ := id hsq
      obtain ⟨a1, a2, a3, a4, o0, w1, w2, w3, w4⟩ := rds hsd
      refine lv_aload_n hx hb dX1_mixSides_41 rfl (lv_at hl 1 rfl) ?_
      refine lv_aload_n hx hb dX1_mixSides_42 rfl (lv_at hl 1 rfl) ?_
      refine r_get (C := RX1) (T := TX1) (N := 5) (ci := 1) X in_X1 rfl 0 (Nat.le_of_ble_eq_true rfl) q280 (fun _ h => h) ob rfl dX1_mixSides_43 ?_
      refine r_getN (C := RX2) (T := TX2) (N := 4) (ci := 2) X in_X2 rfl 1 (Nat.le_of_ble_eq_true rfl) q213 (fun _ h => h) obs rfl dX1_mixSides_46 ?_
      refine r_getN (C := RX4) (T := TX4) (N := 4) (ci := 4) X in_X4 rfl 2 (Nat.le_of_ble_eq_true rfl) q197 (fun _ h => h) o0 rfl dX1_mixSides_49 ?_
      refine lv_iload_n hx hb dX1_mixSides_52 rfl (lv_at hl 0 rfl) ?_
      refine r_ild X w3 1 (nI_cl (by omega) rfl) (nI_nn (by omega) rfl) (by omega) dX1_mixSides_53 ?_
      refine lv_i2l hx hb dX1_mixSides_54 rfl ?_
      refine Ct.callV (ct_X1_mix l g o sta dq sl bf h6 (((mgr ro) 1).toInt64) loo) X hL hl vb_X1_mix q1148 (ob.recv hKV rfl) rfl rfl (Nat.le_of_ble_eq_true rfl) dX1_mixSides_55 ⟨Nat.le_of_ble_eq_true rfl, Nat.le_of_ble_eq_true rfl⟩ (by omega) (by omega) ob (fun r H locs hL hp => ?_)
      obtain ⟨rfl, ob, hon⟩ := hp
      obtain ⟨h7, eh7⟩ : ∃ z, z = 31 * h6 + (((mgr ro) 1).toInt64) := ⟨_, rfl⟩
      rw [← eh7] at ob
      have hst := hst.keep (hon.chg rfl)
      have hC := hC.trans (hon.chg rfl)
      have hsq := hst.q
      obtain ⟨sb, sd, PG, PS, obs, hbg, hsd, hof, hinj⟩ := id hsq
      obtain ⟨a1, a2, a3, a4, o0, w1, w2, w3, w4⟩ := rds hsd
      refine lv_aload_n hx hb dX1_mixSides_58 rfl (lv_at hl 1 rfl) ?_
      refine lv_aload_n hx hb dX1_mixSides_59 rfl (lv_at hl 1 rfl) ?_
      refine r_get (C := RX1) (T := TX1) (N := 5) (ci := 1) X in_X1 rfl 0 (Nat.le_of_ble_eq_true rfl) q280 (fun _ h => h) ob rfl dX1_mixSides_60 ?_
      refine r_getN (C := RX2) (T := TX2) (N := 4) (ci := 2) X in_X2 rfl 1 (Nat.le_of_ble_eq_true rfl) q213 (fun _ h => h) obs rfl dX1_mixSides_63 ?_
      refine r_getN (C := RX4) (T := TX4) (N := 4) (ci := 4) X in_X4 rfl 3 (Nat.le_of_ble_eq_true rfl) q199 (fun _ h => h) o0 rfl dX1_mixSides_66 ?_
      refine lv_iload_n hx hb dX1_mixSides_69 rfl (lv_at hl 0 rfl) ?_
      refine r_ild X w4 1 (nI_cl (by omega) rfl) (nI_nn (by omega) rfl) (by omega) dX1_mixSides_70 ?_
      refine lv_i2l hx hb dX1_mixSides_71 rfl ?_
      refine Ct.callV (ct_X1_mix l g o sta dq sl bf h7 (((mwe ro) 1).toInt64) loo) X hL hl vb_X1_mix q1148 (ob.recv hKV rfl) rfl rfl (Nat.le_of_ble_eq_true rfl) dX1_mixSides_72 ⟨Nat.le_of_ble_eq_true rfl, Nat.le_of_ble_eq_true rfl⟩ (by omega) (by omega) ob (fun r H locs hL hp => ?_)
      obtain ⟨rfl, ob, hon⟩ := hp
      obtain ⟨h8, eh8⟩ : ∃ z, z = 31 * h7 + (((mwe ro) 1).toInt64) := ⟨_, rfl⟩
      rw [← eh8] at ob
      have hst := hst.keep (hon.chg rfl)
      have hC := hC.trans (hon.chg rfl)
      have hsq := hst.q
      obtain ⟨sb, sd, PG, PS, obs, hbg, hsd, hof, hinj⟩ := id hsq
      obtain ⟨a1, a2, a3, a4, o0, w1, w2, w3, w4⟩ := rds hsd
      refine lv_iinc (v := nI (2)) (lv' := [(1, .int _), (0, .ref _)]) hx hb dX1_mixSides_75 hl (k := 0) rfl (nI_iinc _ 1 rfl) (by decide) rfl (fun ls hl => ?_)
      refine lv_goto (tgt := 2) hx hb dX1_mixSides_78 (by decide) ?_
      refine lv_iload_n hx hb dX1_mixSides_2 rfl (lv_at hl 0 rfl) ?_
      refine lv_iconst (v := nI 4) hx hb dX1_mixSides_3 (by decide) ?_
      refine n_icmp_ge (tgt := 81) X dX1_mixSides_4 (by decide) (by omega) (by omega) (fun c_4 => ?_) (fun c_4 => ?_)
      ·
        exact absurd c_4 (by decide)
      ·
        refine lv_aload_n hx hb dX1_mixSides_7 rfl (lv_at hl 1 rfl) ?_
        refine lv_aload_n hx hb dX1_mixSides_8 rfl (lv_at hl 1 rfl) ?_
        refine r_get (C := RX1) (T := TX1) (N := 5) (ci := 1) X in_X1 rfl 0 (Nat.le_of_ble_eq_true rfl) q280 (fun _ h => h) ob rfl dX1_mixSides_9 ?_
        refine r_getN (C := RX2) (T := TX2) (N := 4) (ci := 2) X in_X2 rfl 1 (Nat.le_of_ble_eq_true rfl) q213 (fun _ h => h) obs rfl dX1_mixSides_12 ?_
        refine r_getN (C := RX4) (T := TX4) (N := 4) (ci := 4) X in_X4 rfl 0 (Nat.le_of_ble_eq_true rfl) q191 (fun _ h => h) o0 rfl dX1_mixSides_15 ?_
        refine lv_iload_n hx hb dX1_mixSides_18 rfl (lv_at hl 0 rfl) ?_
        refine r_ild X w1 2 (nI_cl (by omega) rfl) (nI_nn (by omega) rfl) (by omega) dX1_mixSides_19 ?_
        refine lv_i2l hx hb dX1_mixSides_20 rfl ?_
        refine Ct.callV (ct_X1_mix l g o sta dq sl bf h8 (((mw ro) 2).toInt64) loo) X hL hl vb_X1_mix q1148 (ob.recv hKV rfl) rfl rfl (Nat.le_of_ble_eq_true rfl) dX1_mixSides_21 ⟨Nat.le_of_ble_eq_true rfl, Nat.le_of_ble_eq_true rfl⟩ (by omega) (by omega) ob (fun r H locs hL hp => ?_)
        obtain ⟨rfl, ob, hon⟩ := hp
        obtain ⟨h9, eh9⟩ : ∃ z, z = 31 * h8 + (((mw ro) 2).toInt64) := ⟨_, rfl⟩
        rw [← eh9] at ob
        have hst := hst.keep (hon.chg rfl)
        have hC := hC.trans (hon.chg rfl)
        have hsq := hst.q
        obtain ⟨sb, sd, PG, PS, obs, hbg, hsd, hof, hinj⟩ := id hsq
        obtain ⟨a1, a2, a3, a4, o0, w1, w2, w3, w4⟩ := rds hsd
        refine lv_aload_n hx hb dX1_mixSides_24 rfl (lv_at hl 1 rfl) ?_
        refine lv_aload_n hx hb dX1_mixSides_25 rfl (lv_at hl 1 rfl) ?_
        refine r_get (C := RX1) (T := TX1) (N := 5) (ci := 1) X in_X1 rfl 0 (Nat.le_of_ble_eq_true rfl) q280 (fun _ h => h) ob rfl dX1_mixSides_26 ?_
        refine r_getN (C := RX2) (T := TX2) (N := 4) (ci := 2) X in_X2 rfl 1 (Nat.le_of_ble_eq_true rfl) q213 (fun _ h => h) obs rfl dX1_mixSides_29 ?_
        refine r_getN (C := RX4) (T := TX4) (N := 4) (ci := 4) X in_X4 rfl 1 (Nat.le_of_ble_eq_true rfl) q194 (fun _ h => h) o0 rfl dX1_mixSides_32 ?_
        refine lv_iload_n hx hb dX1_mixSides_35 rfl (lv_at hl 0 rfl) ?_
        refine r_ild X w2 2 (nI_cl (by omega) rfl) (nI_nn (by omega) rfl) (by omega) dX1_mixSides_36 ?_
        refine lv_i2l hx hb dX1_mixSides_37 rfl ?_
        refine Ct.callV (ct_X1_mix l g o sta dq sl bf h9 (((mle ro) 2).toInt64) loo) X hL hl vb_X1_mix q1148 (ob.recv hKV rfl) rfl rfl (Nat.le_of_ble_eq_true rfl) dX1_mixSides_38 ⟨Nat.le_of_ble_eq_true rfl, Nat.le_of_ble_eq_true rfl⟩ (by omega) (by omega) ob (fun r H locs hL hp => ?_)
        obtain ⟨rfl, ob, hon⟩ := hp
        obtain ⟨h10, eh10⟩ : ∃ z, z = 31 * h9 + (((mle ro) 2).toInt64) := ⟨_, rfl⟩
        rw [← eh10] at ob
        have hst := hst.keep (hon.chg rfl)
        have hC := hC.trans (hon.chg rfl)
        have hsq := hst.q
        obtain ⟨sb, sd, PG, PS, obs, hbg, hsd, hof, hinj⟩ := id hsq
        obtain ⟨a1, a2, a3, a4, o0, w1, w2, w3, w4⟩ := rds hsd
        refine lv_aload_n hx hb dX1_mixSides_41 rfl (lv_at hl 1 rfl) ?_
        refine lv_aload_n hx hb dX1_mixSides_42 rfl (lv_at hl 1 rfl) ?_
        refine r_get (C := RX1) (T := TX1) (N := 5) (ci := 1) X in_X1 rfl 0 (Nat.le_of_ble_eq_true rfl) q280 (fun _ h => h) ob rfl dX1_mixSides_43 ?_
        refine r_getN (C := RX2) (T := TX2) (N := 4) (ci := 2) X in_X2 rfl 1 (Nat.le_of_ble_eq_true rfl) q213 (fun _ h => h) obs rfl dX1_mixSides_46 ?_
        refine r_getN (C := RX4) (T := TX4) (N := 4) (ci := 4) X in_X4 rfl 2 (Nat.le_of_ble_eq_true rfl) q197 (fun _ h => h) o0 rfl dX1_mixSides_49 ?_
        refine lv_iload_n hx hb dX1_mixSides_52 rfl (lv_at hl 0 rfl) ?_
        refine r_ild X w3 2 (nI_cl (by omega) rfl) (nI_nn (by omega) rfl) (by omega) dX1_mixSides_53 ?_
        refine lv_i2l hx hb dX1_mixSides_54 rfl ?_
        refine Ct.callV (ct_X1_mix l g o sta dq sl bf h10 (((mgr ro) 2).toInt64) loo) X hL hl vb_X1_mix q1148 (ob.recv hKV rfl) rfl rfl (Nat.le_of_ble_eq_true rfl) dX1_mixSides_55 ⟨Nat.le_of_ble_eq_true rfl, Nat.le_of_ble_eq_true rfl⟩ (by omega) (by omega) ob (fun r H locs hL hp => ?_)
        obtain ⟨rfl, ob, hon⟩ := hp
        obtain ⟨h11, eh11⟩ : ∃ z, z = 31 * h10 + (((mgr ro) 2).toInt64) := ⟨_, rfl⟩
        rw [← eh11] at ob
        have hst := hst.keep (hon.chg rfl)
        have hC := hC.trans (hon.chg rfl)
        have hsq := hst.q
        obtain ⟨sb, sd, PG, PS, obs, hbg, hsd, hof, hinj⟩ := id hsq
        obtain ⟨a1, a2, a3, a4, o0, w1, w2, w3, w4⟩ := rds hsd
        refine lv_aload_n hx hb dX1_mixSides_58 rfl (lv_at hl 1 rfl) ?_
        refine lv_aload_n hx hb dX1_mixSides_59 rfl (lv_at hl 1 rfl) ?_
        refine r_get (C := RX1) (T := TX1) (N := 5) (ci := 1) X in_X1 rfl 0 (Nat.le_of_ble_eq_true rfl) q280 (fun _ h => h) ob rfl dX1_mixSides_60 ?_
        refine r_getN (C := RX2) (T := TX2) (N := 4) (ci := 2) X in_X2 rfl 1 (Nat.le_of_ble_eq_true rfl) q213 (fun _ h => h) obs rfl dX1_mixSides_63 ?_
        refine r_getN (C := RX4) (T := TX4) (N := 4) (ci := 4) X in_X4 rfl 3 (Nat.le_of_ble_eq_true rfl) q199 (fun _ h => h) o0 rfl dX1_mixSides_66 ?_
        refine lv_iload_n hx hb dX1_mixSides_69 rfl (lv_at hl 0 rfl) ?_
        refine r_ild X w4 2 (nI_cl (by omega) rfl) (nI_nn (by omega) rfl) (by omega) dX1_mixSides_70 ?_
        refine lv_i2l hx hb dX1_mixSides_71 rfl ?_
        refine Ct.callV (ct_X1_mix l g o sta dq sl bf h11 (((mwe ro) 2).toInt64) loo) X hL hl vb_X1_mix q1148 (ob.recv hKV rfl) rfl rfl (Nat.le_of_ble_eq_true rfl) dX1_mixSides_72 ⟨Nat.le_of_ble_eq_true rfl, Nat.le_of_ble_eq_true rfl⟩ (by omega) (by omega) ob (fun r H locs hL hp => ?_)
        obtain ⟨rfl, ob, hon⟩ := hp
        obtain ⟨h12, eh12⟩ : ∃ z, z = 31 * h11 + (((mwe ro) 2).toInt64) := ⟨_, rfl⟩
        rw [← eh12] at ob
        have hst := hst.keep (hon.chg rfl)
        have hC := hC.trans (hon.chg rfl)
        have hsq := hst.q
        obtain ⟨sb, sd, PG, PS, obs, hbg, hsd, hof, hinj⟩ := id hsq
        obtain ⟨a1, a2, a3, a4, o0, w1, w2, w3, w4⟩ := rds hsd
        refine lv_iinc (v := nI (3)) (lv' := [(1, .int _), (0, .ref _)]) hx hb dX1_mixSides_75 hl (k := 0) rfl (nI_iinc _ 1 rfl) (by decide) rfl (fun ls hl => ?_)
        refine lv_goto (tgt := 2) hx hb dX1_mixSides_78 (by decide) ?_
        refine lv_iload_n hx hb dX1_mixSides_2 rfl (lv_at hl 0 rfl) ?_
        refine lv_iconst (v := nI 4) hx hb dX1_mixSides_3 (by decide) ?_
        refine n_icmp_ge (tgt := 81) X dX1_mixSides_4 (by decide) (by omega) (by omega) (fun c_4 => ?_) (fun c_4 => ?_)
        ·
          exact absurd c_4 (by decide)
        ·
          refine lv_aload_n hx hb dX1_mixSides_7 rfl (lv_at hl 1 rfl) ?_
          refine lv_aload_n hx hb dX1_mixSides_8 rfl (lv_at hl 1 rfl) ?_
          refine r_get (C := RX1) (T := TX1) (N := 5) (ci := 1) X in_X1 rfl 0 (Nat.le_of_ble_eq_true rfl) q280 (fun _ h => h) ob rfl dX1_mixSides_9 ?_
          refine r_getN (C := RX2) (T := TX2) (N := 4) (ci := 2) X in_X2 rfl 1 (Nat.le_of_ble_eq_true rfl) q213 (fun _ h => h) obs rfl dX1_mixSides_12 ?_
          refine r_getN (C := RX4) (T := TX4) (N := 4) (ci := 4) X in_X4 rfl 0 (Nat.le_of_ble_eq_true rfl) q191 (fun _ h => h) o0 rfl dX1_mixSides_15 ?_
          refine lv_iload_n hx hb dX1_mixSides_18 rfl (lv_at hl 0 rfl) ?_
          refine r_ild X w1 3 (nI_cl (by omega) rfl) (nI_nn (by omega) rfl) (by omega) dX1_mixSides_19 ?_
          refine lv_i2l hx hb dX1_mixSides_20 rfl ?_
          refine Ct.callV (ct_X1_mix l g o sta dq sl bf h12 (((mw ro) 3).toInt64) loo) X hL hl vb_X1_mix q1148 (ob.recv hKV rfl) rfl rfl (Nat.le_of_ble_eq_true rfl) dX1_mixSides_21 ⟨Nat.le_of_ble_eq_true rfl, Nat.le_of_ble_eq_true rfl⟩ (by omega) (by omega) ob (fun r H locs hL hp => ?_)
          obtain ⟨rfl, ob, hon⟩ := hp
          obtain ⟨h13, eh13⟩ : ∃ z, z = 31 * h12 + (((mw ro) 3).toInt64) := ⟨_, rfl⟩
          rw [← eh13] at ob
          have hst := hst.keep (hon.chg rfl)
          have hC := hC.trans (hon.chg rfl)
          have hsq := hst.q
          obtain ⟨sb, sd, PG, PS, obs, hbg, hsd, hof, hinj⟩ := id hsq
          obtain ⟨a1, a2, a3, a4, o0, w1, w2, w3, w4⟩ := rds hsd
          refine lv_aload_n hx hb dX1_mixSides_24 rfl (lv_at hl 1 rfl) ?_
          refine lv_aload_n hx hb dX1_mixSides_25 rfl (lv_at hl 1 rfl) ?_
          refine r_get (C := RX1) (T := TX1) (N := 5) (ci := 1) X in_X1 rfl 0 (Nat.le_of_ble_eq_true rfl) q280 (fun _ h => h) ob rfl dX1_mixSides_26 ?_
          refine r_getN (C := RX2) (T := TX2) (N := 4) (ci := 2) X in_X2 rfl 1 (Nat.le_of_ble_eq_true rfl) q213 (fun _ h => h) obs rfl dX1_mixSides_29 ?_
          refine r_getN (C := RX4) (T := TX4) (N := 4) (ci := 4) X in_X4 rfl 1 (Nat.le_of_ble_eq_true rfl) q194 (fun _ h => h) o0 rfl dX1_mixSides_32 ?_
          refine lv_iload_n hx hb dX1_mixSides_35 rfl (lv_at hl 0 rfl) ?_
          refine r_ild X w2 3 (nI_cl (by omega) rfl) (nI_nn (by omega) rfl) (by omega) dX1_mixSides_36 ?_
          refine lv_i2l hx hb dX1_mixSides_37 rfl ?_
          refine Ct.callV (ct_X1_mix l g o sta dq sl bf h13 (((mle ro) 3).toInt64) loo) X hL hl vb_X1_mix q1148 (ob.recv hKV rfl) rfl rfl (Nat.le_of_ble_eq_true rfl) dX1_mixSides_38 ⟨Nat.le_of_ble_eq_true rfl, Nat.le_of_ble_eq_true rfl⟩ (by omega) (by omega) ob (fun r H locs hL hp => ?_)
          obtain ⟨rfl, ob, hon⟩ := hp
          obtain ⟨h14, eh14⟩ : ∃ z, z = 31 * h13 + (((mle ro) 3).toInt64) := ⟨_, rfl⟩
          rw [← eh14] at ob
          have hst := hst.keep (hon.chg rfl)
          have hC := hC.trans (hon.chg rfl)
          have hsq := hst.q
          obtain ⟨sb, sd, PG, PS, obs, hbg, hsd, hof, hinj⟩ := id hsq
          obtain ⟨a1, a2, a3, a4, o0, w1, w2, w3, w4⟩ := rds hsd
          refine lv_aload_n hx hb dX1_mixSides_41 rfl (lv_at hl 1 rfl) ?_
          refine lv_aload_n hx hb dX1_mixSides_42 rfl (lv_at hl 1 rfl) ?_
          refine r_get (C := RX1) (T := TX1) (N := 5) (ci := 1) X in_X1 rfl 0 (Nat.le_of_ble_eq_true rfl) q280 (fun _ h => h) ob rfl dX1_mixSides_43 ?_
          refine r_getN (C := RX2) (T := TX2) (N := 4) (ci := 2) X in_X2 rfl 1 (Nat.le_of_ble_eq_true rfl) q213 (fun _ h => h) obs rfl dX1_mixSides_46 ?_
          refine r_getN (C := RX4) (T := TX4) (N := 4) (ci := 4) X in_X4 rfl 2 (Nat.le_of_ble_eq_true rfl) q197 (fun _ h => h) o0 rfl dX1_mixSides_49 ?_
          refine lv_iload_n hx hb dX1_mixSides_52 rfl (lv_at hl 0 rfl) ?_
          refine r_ild X w3 3 (nI_cl (by omega) rfl) (nI_nn (by omega) rfl) (by omega) dX1_mixSides_53 ?_
          refine lv_i2l hx hb dX1_mixSides_54 rfl ?_
          refine Ct.callV (ct_X1_mix l g o sta dq sl bf h14 (((mgr ro) 3).toInt64) loo) X hL hl vb_X1_mix q1148 (ob.recv hKV rfl) rfl rfl (Nat.le_of_ble_eq_true rfl) dX1_mixSides_55 ⟨Nat.le_of_ble_eq_true rfl, Nat.le_of_ble_eq_true rfl⟩ (by omega) (by omega) ob (fun r H locs hL hp => ?_)
          obtain ⟨rfl, ob, hon⟩ := hp
          obtain ⟨h15, eh15⟩ : ∃ z, z = 31 * h14 + (((mgr ro) 3).toInt64) := ⟨_, rfl⟩
          rw [← eh15] at ob
          have hst := hst.keep (hon.chg rfl)
          have hC := hC.trans (hon.chg rfl)
          have hsq := hst.q
          obtain ⟨sb, sd, PG, PS, obs, hbg, hsd, hof, hinj⟩ := id hsq
          obtain ⟨a1, a2, a3, a4, o0, w1, w2, w3, w4⟩ := rds hsd
          refine lv_aload_n hx hb dX1_mixSides_58 rfl (lv_at hl 1 rfl) ?_
          refine lv_aload_n hx hb dX1_mixSides_59 rfl (lv_at hl 1 rfl) ?_
          refine r_get (C := RX1) (T := TX1) (N := 5) (ci := 1) X in_X1 rfl 0 (Nat.le_of_ble_eq_true rfl) q280 (fun _ h => h) ob rfl dX1_mixSides_60 ?_
          refine r_getN (C := RX2) (T := TX2) (N := 4) (ci := 2) X in_X2 rfl 1 (Nat.le_of_ble_eq_true rfl) q213 (fun _ h => h) obs rfl dX1_mixSides_63 ?_
          refine r_getN (C := RX4) (T := TX4) (N := 4) (ci := 4) X in_X4 rfl 3 (Nat.le_of_ble_eq_true rfl) q199 (fun _ h => h) o0 rfl dX1_mixSides_66 ?_
          refine lv_iload_n hx hb dX1_mixSides_69 rfl (lv_at hl 0 rfl) ?_
          refine r_ild X w4 3 (nI_cl (by omega) rfl) (nI_nn (by omega) rfl) (by omega) dX1_mixSides_70 ?_
          refine lv_i2l hx hb dX1_mixSides_71 rfl ?_
          refine Ct.callV (ct_X1_mix l g o sta dq sl bf h15 (((mwe ro) 3).toInt64) loo) X hL hl vb_X1_mix q1148 (ob.recv hKV rfl) rfl rfl (Nat.le_of_ble_eq_true rfl) dX1_mixSides_72 ⟨Nat.le_of_ble_eq_true rfl, Nat.le_of_ble_eq_true rfl⟩ (by omega) (by omega) ob (fun r H locs hL hp => ?_)
          obtain ⟨rfl, ob, hon⟩ := hp
          obtain ⟨h16, eh16⟩ : ∃ z, z = 31 * h15 + (((mwe ro) 3).toInt64) := ⟨_, rfl⟩
          rw [← eh16] at ob
          have hst := hst.keep (hon.chg rfl)
          have hC := hC.trans (hon.chg rfl)
          have hsq := hst.q
          obtain ⟨sb, sd, PG, PS, obs, hbg, hsd, hof, hinj⟩ := id hsq
          obtain ⟨a1, a2, a3, a4, o0, w1, w2, w3, w4⟩ := rds hsd
          refine lv_iinc (v := nI (4)) (lv' := [(1, .int _), (0, .ref _)]) hx hb dX1_mixSides_75 hl (k := 0) rfl (nI_iinc _ 1 rfl) (by decide) rfl (fun ls hl => ?_)
          refine lv_goto (tgt := 2) hx hb dX1_mixSides_78 (by decide) ?_
          refine lv_iload_n hx hb dX1_mixSides_2 rfl (lv_at hl 0 rfl) ?_
          refine lv_iconst (v := nI 4) hx hb dX1_mixSides_3 (by decide) ?_
          refine n_icmp_ge (tgt := 81) X dX1_mixSides_4 (by decide) (by omega) (by omega) (fun c_4 => ?_) (fun c_4 => ?_)
          ·
            refine lv_aload_n hx hb dX1_mixSides_81 rfl (lv_at hl 1 rfl) ?_
            refine lv_aload_n hx hb dX1_mixSides_82 rfl (lv_at hl 1 rfl) ?_
            refine r_get (C := RX1) (T := TX1) (N := 5) (ci := 1) X in_X1 rfl 0 (Nat.le_of_ble_eq_true rfl) q280 (fun _ h => h) ob rfl dX1_mixSides_83 ?_
            refine r_getN (C := RX2) (T := TX2) (N := 4) (ci := 2) X in_X2 rfl 0 (Nat.le_of_ble_eq_true rfl) q211 (fun _ h => h) obs rfl dX1_mixSides_86 ?_
            refine Cp.callV (v := .int (nI _)) (ct_X3_size l g PG _ _ sb ) X hL hl vb_X3_size q993 (hbg.recv hKV) rfl rfl (Nat.le_of_ble_eq_true rfl) dX1_mixSides_89 ⟨Nat.le_of_ble_eq_true rfl, Nat.le_of_ble_eq_true rfl⟩ (by omega) (by omega) hbg (fun locs hL => ?_)
            rw [rng_len]
            refine lv_i2l hx hb dX1_mixSides_92 rfl ?_
            refine Ct.callV (ct_X1_mix l g o sta dq sl bf h16 ((nI n).toInt64) loo) X hL hl vb_X1_mix q1148 (ob.recv hKV rfl) rfl rfl (Nat.le_of_ble_eq_true rfl) dX1_mixSides_93 ⟨Nat.le_of_ble_eq_true rfl, Nat.le_of_ble_eq_true rfl⟩ (by omega) (by omega) ob (fun r H locs hL hp => ?_)
            obtain ⟨rfl, ob, hon⟩ := hp
            obtain ⟨h17, eh17⟩ : ∃ z, z = 31 * h16 + ((nI n).toInt64) := ⟨_, rfl⟩
            rw [← eh17] at ob
            have hst := hst.keep (hon.chg rfl)
            have hC := hC.trans (hon.chg rfl)
            have hsq := hst.q
            obtain ⟨sb, sd, PG, PS, obs, hbg, hsd, hof, hinj⟩ := id hsq
            obtain ⟨a1, a2, a3, a4, o0, w1, w2, w3, w4⟩ := rds hsd
            refine lv_aload_n hx hb dX1_mixSides_96 rfl (lv_at hl 1 rfl) ?_
            refine lv_aload_n hx hb dX1_mixSides_97 rfl (lv_at hl 1 rfl) ?_
            refine r_get (C := RX1) (T := TX1) (N := 5) (ci := 1) X in_X1 rfl 0 (Nat.le_of_ble_eq_true rfl) q280 (fun _ h => h) ob rfl dX1_mixSides_98 ?_
            have hol := ob.lt
            refine Ct.callV (ct_X2_active l g ro n x sta hn) X hL hl vb_X2_active q998 (hsq.recv hKV) rfl rfl (Nat.le_of_ble_eq_true rfl) dX1_mixSides_101 ⟨Nat.le_of_ble_eq_true rfl, Nat.le_of_ble_eq_true rfl⟩ (by omega) (by omega) hsq (fun r H locs hL hp => ?_)
            have hol := ob.lt
            obtain ⟨ba, hba, rfl, hE1⟩ := hp
            have hba := hba.to (Q := fun q => q ≠ o) (fun _ _ => rfl) (fun q hq e => by omega)
            have ob := ob.ext hE1
            have hst := hst.ext hE1
            have hC := hC.trans hE1.chg
            have hsq := hst.q
            obtain ⟨sb, sd, PG, PS, obs, hbg, hsd, hof, hinj⟩ := id hsq
            obtain ⟨a1, a2, a3, a4, o0, w1, w2, w3, w4⟩ := rds hsd
            refine Cp.callV (v := .int (nI _)) (ct_X3_size l g _ _ _ ba ) X hL hl vb_X3_size q993 (hba.recv hKV) rfl rfl (Nat.le_of_ble_eq_true rfl) dX1_mixSides_104 ⟨Nat.le_of_ble_eq_true rfl, Nat.le_of_ble_eq_true rfl⟩ (by omega) (by omega) hba (fun locs hL => ?_)
            refine W.stk (w := (nI (cnt (cB ro) n))) (congrArg nI (jn_act ro n)) ?_
            refine lv_i2l hx hb dX1_mixSides_107 rfl ?_
            refine Ct.callV (ct_X1_mix l g o sta dq sl bf h17 ((nI (cnt (cB ro) n)).toInt64) loo) X hL hl vb_X1_mix q1148 (ob.recv hKV rfl) rfl rfl (Nat.le_of_ble_eq_true rfl) dX1_mixSides_108 ⟨Nat.le_of_ble_eq_true rfl, Nat.le_of_ble_eq_true rfl⟩ (by omega) (by omega) ob (fun r H locs hL hp => ?_)
            obtain ⟨rfl, ob, hon⟩ := hp
            obtain ⟨h18, eh18⟩ : ∃ z, z = 31 * h17 + ((nI (cnt (cB ro) n)).toInt64) := ⟨_, rfl⟩
            rw [← eh18] at ob
            have hst := hst.keep (hon.chg rfl)
            have hC := hC.trans (hon.chg rfl)
            have hsq := hst.q
            obtain ⟨sb, sd, PG, PS, obs, hbg, hsd, hof, hinj⟩ := id hsq
            obtain ⟨a1, a2, a3, a4, o0, w1, w2, w3, w4⟩ := rds hsd
            have hfin : h18 = mxs hh (sidL ro ++ preL ro n) := by rw [eh18, eh17, eh16, eh15, eh14, eh13, eh12, eh11, eh10, eh9, eh8, eh7, eh6, eh5, eh4, eh3, eh2, eh1]; rfl
            exact r_vret X hL dX1_mixSides_111 (by omega) (by omega) ⟨rfl, by rw [← hfin]; exact ob, hst, hC⟩
          ·
            exact absurd c_4 (by decide)
theorem vb_X1_mixSides : VB yX1_mixSides cX1_mixSides 2 none 0 := ⟨q1146, qs26, q99, q1147, ⟨by decide, by decide, by decide +kernel⟩⟩

set_option maxRecDepth 100000 in
set_option maxHeartbeats 4000000 in
theorem ct_X1_mixOffers (l : Launch) (g : GT) (ro : Nat → Int32) (n : Nat) (x : Nat → Nat) (o sta dq sl bf : Nat) (hh : Int64) (loo : gLo g ≤ o) (hn : n ≤ 40) (hR : RO ro n) : Ct l g yX1_mixOffers cX1_mixOffers 10 none 20 2800 23000 [.ref o] (fun H => Ob g o 1 [.ref sta, .ref dq, .ref sl, .ref bf, .long hh] H ∧ StW g (fun q => q = o) ro n x sta H) (fun r H H1 => r = none ∧ Ob g o 1 [.ref sta, .ref dq, .ref sl, .ref bf, .long (mxs hh (ofA ro n n))] H1 ∧ StW g (fun q => q = o) ro n x sta H1 ∧ Chg (fun q => q = o) H H1) := by
  refine Ct.of (by decide) (Nat.le_of_ble_eq_true rfl) ?_
  intro p e s m args below meth c X hP ls hl
  have hx := X.1
  have hb := X.2.1
  have hKV := X.2.2.2.2.2.2.2.1.1
  have hL : ∀ q ∈ ([] : List Loc), gLo g ≤ q.base := fun _ h => by cases h
  obtain ⟨ob, hst⟩ := hP
  have hw := hR.w
  have hsq := hst.q
  obtain ⟨sb, sd, PG, PS, obs, hbg, hsd, hof, hinj⟩ := id hsq
  have hl : lv_has ls 10 [(0, .ref o)] := hl
  have hC : Chg (fun q => q = o) s.heap s.heap := Chg.rfl'
  have hgE := hKV.gE
  refine lv_aload_n hx hb dX1_mixOffers_0 rfl (lv_at hl 0 rfl) ?_
  refine r_get (C := RX1) (T := TX1) (N := 5) (ci := 1) X in_X1 rfl 0 (Nat.le_of_ble_eq_true rfl) q280 (fun _ h => h) ob rfl dX1_mixOffers_1 ?_
  have hol := ob.lt
  refine Ct.callV (ct_X2_window l g ro n x sta hn hw) X hL hl vb_X2_window q1157 (hsq.recv hKV) rfl rfl (Nat.le_of_ble_eq_true rfl) dX1_mixOffers_4 ⟨Nat.le_of_ble_eq_true rfl, Nat.le_of_ble_eq_true rfl⟩ (by omega) (by omega) hsq (fun r H locs hL hp => ?_)
  obtain ⟨bw, hbw, rfl, hE1⟩ := hp
  have hbw := hbw.to (Q := fun q => q ≠ o) (fun _ _ => rfl) (fun q hq e => by omega)
  have ob := ob.ext hE1
  have hst := hst.ext hE1
  have hC := hC.trans hE1.chg
  have hsq := hst.q
  obtain ⟨sb, sd, PG, PS, obs, hbg, hsd, hof, hinj⟩ := id hsq
  refine lv_astore_n (lv' := [(1, .ref _), (0, .ref _)]) hx hb dX1_mixOffers_7 rfl hl (by decide) rfl (fun ls hl => ?_)
  refine lv_aload_n hx hb dX1_mixOffers_8 rfl (lv_at hl 1 rfl) ?_
  refine r_get (C := RX1) (T := TX1) (N := 5) (ci := 1) X in_X1 rfl 0 (Nat.le_of_ble_eq_true rfl) q280 (fun _ h => h) ob rfl dX1_mixOffers_9 ?_
  have hol := ob.lt
  refine Ct.callV (ct_X2_peeled l g ro n x sta hn hw hR) X hL hl vb_X2_peeled q1069 (hsq.recv hKV) rfl rfl (Nat.le_of_ble_eq_true rfl) dX1_mixOffers_12 ⟨Nat.le_of_ble_eq_true rfl, Nat.le_of_ble_eq_true rfl⟩ (by omega) (by omega) hsq (fun r H locs hL hp => ?_)
  obtain ⟨lb, lbf, ⟨hlb, hzlb, hlbf⟩, rfl, hE1⟩ := hp
  have hlo : lb ≠ o := by omega
  have hbw := hbw.ext hE1
  have ob := ob.ext hE1
  have hst := hst.ext hE1
  have hC := hC.trans hE1.chg
  have hsq := hst.q
  obtain ⟨sb, sd, PG, PS, obs, hbg, hsd, hof, hinj⟩ := id hsq
  refine lv_astore_n (lv' := [(2, .ref _), (1, .ref _), (0, .ref _)]) hx hb dX1_mixOffers_15 rfl hl (by decide) rfl (fun ls hl => ?_)
  refine lv_aload_n hx hb dX1_mixOffers_16 rfl (lv_at hl 2 rfl) ?_
  refine r_get (C := RX1) (T := TX1) (N := 5) (ci := 1) X in_X1 rfl 0 (Nat.le_of_ble_eq_true rfl) q280 (fun _ h => h) ob rfl dX1_mixOffers_17 ?_
  have hol := ob.lt
  refine Ct.callV (ct_X2_rowsByBeating l g ro n x sta hn hw hR) X hL hl vb_X2_rowsByBeating q1164 (hsq.recv hKV) rfl rfl (Nat.le_of_ble_eq_true rfl) dX1_mixOffers_20 ⟨Nat.le_of_ble_eq_true rfl, Nat.le_of_ble_eq_true rfl⟩ (by omega) (by omega) hsq (fun r H locs hL hp => ?_)
  obtain ⟨rb, rbf, ⟨hrb, hzrb, hrbf⟩, rfl, hE1⟩ := hp
  have hro : rb ≠ o := by omega
  have hbw := hbw.ext hE1
  have hlb := hlb.ext hE1
  have ob := ob.ext hE1
  have hst := hst.ext hE1
  have hC := hC.trans hE1.chg
  have hsq := hst.q
  obtain ⟨sb, sd, PG, PS, obs, hbg, hsd, hof, hinj⟩ := id hsq
  refine lv_astore_n (lv' := [(3, .ref _), (2, .ref _), (1, .ref _), (0, .ref _)]) hx hb dX1_mixOffers_23 rfl hl (by decide) rfl (fun ls hl => ?_)
  refine lv_iconst (v := nI 0) hx hb dX1_mixOffers_24 (by decide) ?_
  refine lv_istore (lv' := [(4, .int _), (3, .ref _), (2, .ref _), (1, .ref _), (0, .ref _)]) hx hb dX1_mixOffers_25 hl (by decide) rfl (fun ls hl => ?_)
  have L27 : ∀ (fuel : Nat) (k : Nat) (hv : Int64), n - k < fuel → (k ≤ n) → (hv = mxs hh (ofA ro n k)) → ∀ (H : Heap), Ob g o 1 [.ref sta, .ref dq, .ref sl, .ref bf, .long hv] H → StW g (fun q => q = o) ro n x sta H → BagR g (fun q => q ≠ o) (XL x (winL ro n)) (winL ro n).length bw H → Ar g lb 0 n lbf H → Ar g rb 0 n rbf H → Chg (fun q => q = o) s.heap H → ∀ (locs : List Loc), (∀ q ∈ locs, gLo g ≤ q.base) → ∀ (ls : Array Slot), lv_has ls 10 [(0, .ref o), (1, .ref bw), (2, .ref lb), (3, .ref rb), (4, .int (nI k))] → W p l e (rmL 20 2800 23000) s m args below meth c H locs (2583 + 4 * k) (21130 + 7 * k) (MQ below (Qcg (fun r H H1 => r = none ∧ Ob g o 1 [.ref sta, .ref dq, .ref sl, .ref bf, .long (mxs hh (ofA ro n n))] H1 ∧ StW g (fun q => q = o) ro n x sta H1 ∧ Chg (fun q => q = o) H H1)) args s 2800 23000 (fre g)) (F0 m 27 ls []) := by
    intro fuel
    induction fuel with
    | zero => intro k hv hfu; exact absurd hfu (Nat.not_lt_zero _)
    | succ fuel ih27 =>
      intro k hv hfu hk hhv H ob hst hbw hlb hrb hC locs hL ls hl
      have hsq := hst.q
      obtain ⟨sb, sd, PG, PS, obs, hbg, hsd, hof, hinj⟩ := id hsq
      refine lv_iload hx hb dX1_mixOffers_27 (lv_at hl 4 rfl) ?_
      refine lv_aload_n hx hb dX1_mixOffers_29 rfl (lv_at hl 0 rfl) ?_
      refine r_get (C := RX1) (T := TX1) (N := 5) (ci := 1) X in_X1 rfl 0 (Nat.le_of_ble_eq_true rfl) q280 (fun _ h => h) ob rfl dX1_mixOffers_30 ?_
      refine r_getN (C := RX2) (T := TX2) (N := 4) (ci := 2) X in_X2 rfl 0 (Nat.le_of_ble_eq_true rfl) q211 (fun _ h => h) obs rfl dX1_mixOffers_33 ?_
      refine Cp.callV (v := .int (nI _)) (ct_X3_size l g PG _ _ sb ) X hL hl vb_X3_size q993 (hbg.recv hKV) rfl rfl (Nat.le_of_ble_eq_true rfl) dX1_mixOffers_36 ⟨Nat.le_of_ble_eq_true rfl, Nat.le_of_ble_eq_true rfl⟩ (by omega) (by omega) hbg (fun locs hL => ?_)
      rw [rng_len]
      refine n_icmp_ge (tgt := 216) X dX1_mixOffers_39 (by decide) (by omega) (by omega) (fun c_39 => ?_) (fun c_39 => ?_)
      ·
        have hkn : k = n := by omega
        subst hkn
        exact r_vret X hL dX1_mixOffers_216 (by omega) (by omega) ⟨rfl, by rw [← hhv]; exact ob, hst, hC⟩
      ·
        refine lv_aload_n hx hb dX1_mixOffers_42 rfl (lv_at hl 0 rfl) ?_
        refine r_get (C := RX1) (T := TX1) (N := 5) (ci := 1) X in_X1 rfl 0 (Nat.le_of_ble_eq_true rfl) q280 (fun _ h => h) ob rfl dX1_mixOffers_43 ?_
        refine lv_iload hx hb dX1_mixOffers_46 (lv_at hl 4 rfl) ?_
        refine Cp.callV (v := .ref (x k)) (ct_X2_get l g ro n x sta k hn (by omega)) X hL hl vb_X2_get q1176 (hsq.recv hKV) rfl rfl (Nat.le_of_ble_eq_true rfl) dX1_mixOffers_48 ⟨Nat.le_of_ble_eq_true rfl, Nat.le_of_ble_eq_true rfl⟩ (by omega) (by omega) hsq (fun locs hL => ?_)
        obtain ⟨I, hofI, hIo⟩ := hst.of
        obtain ⟨ov, i1, i2, l1, l2, ow, oa⟩ := hofI k (by omega)
        refine lv_astore (lv' := [(5, .ref _), (0, .ref _), (1, .ref _), (2, .ref _), (3, .ref _), (4, .int _)]) hx hb dX1_mixOffers_51 hl (by decide) rfl (fun ls hl => ?_)
        refine lv_aload hx hb dX1_mixOffers_53 (lv_at hl 0 rfl) ?_
        refine r_getN (C := RX6) (T := TX6) (N := 1) (ci := 5) X in_X6 rfl 0 (Nat.le_of_ble_eq_true rfl) q1357 (fun _ h => h) ow rfl dX1_mixOffers_55 ?_
        refine lv_astore (lv' := [(6, .ref _), (5, .ref _), (0, .ref _), (1, .ref _), (2, .ref _), (3, .ref _), (4, .int _)]) hx hb dX1_mixOffers_58 hl (by decide) rfl (fun ls hl => ?_)
        refine lv_aload hx hb dX1_mixOffers_60 (lv_at hl 0 rfl) ?_
        refine r_len (k := 0) (v := nI 4) X oa rfl rfl dX1_mixOffers_62 ?_
        refine lv_istore (lv' := [(7, .int _), (6, .ref _), (5, .ref _), (0, .ref _), (1, .ref _), (2, .ref _), (3, .ref _), (4, .int _)]) hx hb dX1_mixOffers_63 hl (by decide) rfl (fun ls hl => ?_)
        refine lv_iconst (v := nI 0) hx hb dX1_mixOffers_65 (by decide) ?_
        refine lv_istore (lv' := [(8, .int _), (7, .int _), (6, .ref _), (5, .ref _), (0, .ref _), (1, .ref _), (2, .ref _), (3, .ref _), (4, .int _)]) hx hb dX1_mixOffers_66 hl (by decide) rfl (fun ls hl => ?_)
        refine lv_iload hx hb dX1_mixOffers_68 (lv_at hl 0 rfl) ?_
        refine lv_iload hx hb dX1_mixOffers_70 (lv_at hl 1 rfl) ?_
        refine n_icmp_ge (tgt := 95) X dX1_mixOffers_72 (by decide) (by omega) (by omega) (fun c_72 => ?_) (fun c_72 => ?_)
        ·
          exact absurd c_72 (by decide)
        ·
          refine lv_aload hx hb dX1_mixOffers_75 (lv_at hl 2 rfl) ?_
          refine lv_iload hx hb dX1_mixOffers_77 (lv_at hl 0 rfl) ?_
          refine r_ild X oa 0 (nI_cl (by omega) rfl) (nI_nn (by omega) rfl) (by omega) dX1_mixOffers_79 ?_
          refine lv_istore (lv' := [(9, .int _), (8, .int _), (7, .int _), (6, .ref _), (5, .ref _), (0, .ref _), (1, .ref _), (2, .ref _), (3, .ref _), (4, .int _)]) hx hb dX1_mixOffers_80 hl (by decide) rfl (fun ls hl => ?_)
          refine lv_aload_n hx hb dX1_mixOffers_82 rfl (lv_at hl 5 rfl) ?_
          refine lv_iload hx hb dX1_mixOffers_83 (lv_at hl 0 rfl) ?_
          refine lv_i2l hx hb dX1_mixOffers_85 rfl ?_
          refine Ct.callV (ct_X1_mix l g o sta dq sl bf hv (((mv ro k) 0).toInt64) loo) X hL hl vb_X1_mix q1148 (ob.recv hKV rfl) rfl rfl (Nat.le_of_ble_eq_true rfl) dX1_mixOffers_86 ⟨Nat.le_of_ble_eq_true rfl, Nat.le_of_ble_eq_true rfl⟩ (by omega) (by omega) ob (fun r H locs hL hp => ?_)
          obtain ⟨rfl, ob, hon⟩ := hp
          obtain ⟨h1, eh1⟩ : ∃ z, z = 31 * hv + (((mv ro k) 0).toInt64) := ⟨_, rfl⟩
          rw [← eh1] at ob
          have hst := hst.keep (hon.chg rfl)
          have ow := ow.on hon (hIo _ i1)
          have oa := oa.on hon (hIo _ i2)
          have hbw := hbw.keep (Q := fun q => q = o) (hon.chg rfl) (fun q h1 h2 => h1 h2) (by omega)
          have hlb := hlb.on hon hlo
          have hrb := hrb.on hon hro
          have hC := hC.trans (hon.chg rfl)
          have hsq := hst.q
          obtain ⟨sb, sd, PG, PS, obs, hbg, hsd, hof, hinj⟩ := id hsq
          refine lv_iinc (v := nI (1)) (lv' := [(8, .int _), (9, .int _), (7, .int _), (6, .ref _), (5, .ref _), (0, .ref _), (1, .ref _), (2, .ref _), (3, .ref _), (4, .int _)]) hx hb dX1_mixOffers_89 hl (k := 1) rfl (nI_iinc _ 1 rfl) (by decide) rfl (fun ls hl => ?_)
          refine lv_goto (tgt := 68) hx hb dX1_mixOffers_92 (by decide) ?_
          refine lv_iload hx hb dX1_mixOffers_68 (lv_at hl 0 rfl) ?_
          refine lv_iload hx hb dX1_mixOffers_70 (lv_at hl 2 rfl) ?_
          refine n_icmp_ge (tgt := 95) X dX1_mixOffers_72 (by decide) (by omega) (by omega) (fun c_72 => ?_) (fun c_72 => ?_)
          ·
            exact absurd c_72 (by decide)
          ·
            refine lv_aload hx hb dX1_mixOffers_75 (lv_at hl 3 rfl) ?_
            refine lv_iload hx hb dX1_mixOffers_77 (lv_at hl 0 rfl) ?_
            refine r_ild X oa 1 (nI_cl (by omega) rfl) (nI_nn (by omega) rfl) (by omega) dX1_mixOffers_79 ?_
            refine lv_istore (lv' := [(9, .int _), (8, .int _), (7, .int _), (6, .ref _), (5, .ref _), (0, .ref _), (1, .ref _), (2, .ref _), (3, .ref _), (4, .int _)]) hx hb dX1_mixOffers_80 hl (by decide) rfl (fun ls hl => ?_)
            refine lv_aload_n hx hb dX1_mixOffers_82 rfl (lv_at hl 5 rfl) ?_
            refine lv_iload hx hb dX1_mixOffers_83 (lv_at hl 0 rfl) ?_
            refine lv_i2l hx hb dX1_mixOffers_85 rfl ?_
            refine Ct.callV (ct_X1_mix l g o sta dq sl bf h1 (((mv ro k) 1).toInt64) loo) X hL hl vb_X1_mix q1148 (ob.recv hKV rfl) rfl rfl (Nat.le_of_ble_eq_true rfl) dX1_mixOffers_86 ⟨Nat.le_of_ble_eq_true rfl, Nat.le_of_ble_eq_true rfl⟩ (by omega) (by omega) ob (fun r H locs hL hp => ?_)
            obtain ⟨rfl, ob, hon⟩ := hp
            obtain ⟨h2, eh2⟩ : ∃ z, z = 31 * h1 + (((mv ro k) 1).toInt64) := ⟨_, rfl⟩
            rw [← eh2] at ob
            have hst := hst.keep (hon.chg rfl)
            have ow := ow.on hon (hIo _ i1)
            have oa := oa.on hon (hIo _ i2)
            have hbw := hbw.keep (Q := fun q => q = o) (hon.chg rfl) (fun q h1 h2 => h1 h2) (by omega)
            have hlb := hlb.on hon hlo
            have hrb := hrb.on hon hro
            have hC := hC.trans (hon.chg rfl)
            have hsq := hst.q
            obtain ⟨sb, sd, PG, PS, obs, hbg, hsd, hof, hinj⟩ := id hsq
            refine lv_iinc (v := nI (2)) (lv' := [(8, .int _), (9, .int _), (7, .int _), (6, .ref _), (5, .ref _), (0, .ref _), (1, .ref _), (2, .ref _), (3, .ref _), (4, .int _)]) hx hb dX1_mixOffers_89 hl (k := 1) rfl (nI_iinc _ 1 rfl) (by decide) rfl (fun ls hl => ?_)
            refine lv_goto (tgt := 68) hx hb dX1_mixOffers_92 (by decide) ?_
            refine lv_iload hx hb dX1_mixOffers_68 (lv_at hl 0 rfl) ?_
            refine lv_iload hx hb dX1_mixOffers_70 (lv_at hl 2 rfl) ?_
            refine n_icmp_ge (tgt := 95) X dX1_mixOffers_72 (by decide) (by omega) (by omega) (fun c_72 => ?_) (fun c_72 => ?_)
            ·
              exact absurd c_72 (by decide)
            ·
              refine lv_aload hx hb dX1_mixOffers_75 (lv_at hl 3 rfl) ?_
              refine lv_iload hx hb dX1_mixOffers_77 (lv_at hl 0 rfl) ?_
              refine r_ild X oa 2 (nI_cl (by omega) rfl) (nI_nn (by omega) rfl) (by omega) dX1_mixOffers_79 ?_
              refine lv_istore (lv' := [(9, .int _), (8, .int _), (7, .int _), (6, .ref _), (5, .ref _), (0, .ref _), (1, .ref _), (2, .ref _), (3, .ref _), (4, .int _)]) hx hb dX1_mixOffers_80 hl (by decide) rfl (fun ls hl => ?_)
              refine lv_aload_n hx hb dX1_mixOffers_82 rfl (lv_at hl 5 rfl) ?_
              refine lv_iload hx hb dX1_mixOffers_83 (lv_at hl 0 rfl) ?_
              refine lv_i2l hx hb dX1_mixOffers_85 rfl ?_
              refine Ct.callV (ct_X1_mix l g o sta dq sl bf h2 (((mv ro k) 2).toInt64) loo) X hL hl vb_X1_mix q1148 (ob.recv hKV rfl) rfl rfl (Nat.le_of_ble_eq_true rfl) dX1_mixOffers_86 ⟨Nat.le_of_ble_eq_true rfl, Nat.le_of_ble_eq_true rfl⟩ (by omega) (by omega) ob (fun r H locs hL hp => ?_)
              obtain ⟨rfl, ob, hon⟩ := hp
              obtain ⟨h3, eh3⟩ : ∃ z, z = 31 * h2 + (((mv ro k) 2).toInt64) := ⟨_, rfl⟩
              rw [← eh3] at ob
              have hst := hst.keep (hon.chg rfl)
              have ow := ow.on hon (hIo _ i1)
              have oa := oa.on hon (hIo _ i2)
              have hbw := hbw.keep (Q := fun q => q = o) (hon.chg rfl) (fun q h1 h2 => h1 h2) (by omega)
              have hlb := hlb.on hon hlo
              have hrb := hrb.on hon hro
              have hC := hC.trans (hon.chg rfl)
              have hsq := hst.q
              obtain ⟨sb, sd, PG, PS, obs, hbg, hsd, hof, hinj⟩ := id hsq
              refine lv_iinc (v := nI (3)) (lv' := [(8, .int _), (9, .int _), (7, .int _), (6, .ref _), (5, .ref _), (0, .ref _), (1, .ref _), (2, .ref _), (3, .ref _), (4, .int _)]) hx hb dX1_mixOffers_89 hl (k := 1) rfl (nI_iinc _ 1 rfl) (by decide) rfl (fun ls hl => ?_)
              refine lv_goto (tgt := 68) hx hb dX1_mixOffers_92 (by decide) ?_
              refine lv_iload hx hb dX1_mixOffers_68 (lv_at hl 0 rfl) ?_
              refine lv_iload hx hb dX1_mixOffers_70 (lv_at hl 2 rfl) ?_
              refine n_icmp_ge (tgt := 95) X dX1_mixOffers_72 (by decide) (by omega) (by omega) (fun c_72 => ?_) (fun c_72 => ?_)
              ·
                exact absurd c_72 (by decide)
              ·
                refine lv_aload hx hb dX1_mixOffers_75 (lv_at hl 3 rfl) ?_
                refine lv_iload hx hb dX1_mixOffers_77 (lv_at hl 0 rfl) ?_
                refine r_ild X oa 3 (nI_cl (by omega) rfl) (nI_nn (by omega) rfl) (by omega) dX1_mixOffers_79 ?_
                refine lv_istore (lv' := [(9, .int _), (8, .int _), (7, .int _), (6, .ref _), (5, .ref _), (0, .ref _), (1, .ref _), (2, .ref _), (3, .ref _), (4, .int _)]) hx hb dX1_mixOffers_80 hl (by decide) rfl (fun ls hl => ?_)
                refine lv_aload_n hx hb dX1_mixOffers_82 rfl (lv_at hl 5 rfl) ?_
                refine lv_iload hx hb dX1_mixOffers_83 (lv_at hl 0 rfl) ?_
                refine lv_i2l hx hb dX1_mixOffers_85 rfl ?_
                refine Ct.callV (ct_X1_mix l g o sta dq sl bf h3 (((mv ro k) 3).toInt64) loo) X hL hl vb_X1_mix q1148 (ob.recv hKV rfl) rfl rfl (Nat.le_of_ble_eq_true rfl) dX1_mixOffers_86 ⟨Nat.le_of_ble_eq_true rfl, Nat.le_of_ble_eq_true rfl⟩ (by omega) (by omega) ob (fun r H locs hL hp => ?_)
                obtain ⟨rfl, ob, hon⟩ := hp
                obtain ⟨h4, eh4⟩ : ∃ z, z = 31 * h3 + (((mv ro k) 3).toInt64) := ⟨_, rfl⟩
                rw [← eh4] at ob
                have hst := hst.keep (hon.chg rfl)
                have ow := ow.on hon (hIo _ i1)
                have oa := oa.on hon (hIo _ i2)
                have hbw := hbw.keep (Q := fun q => q = o) (hon.chg rfl) (fun q h1 h2 => h1 h2) (by omega)
                have hlb := hlb.on hon hlo
                have hrb := hrb.on hon hro
                have hC := hC.trans (hon.chg rfl)
                have hsq := hst.q
                obtain ⟨sb, sd, PG, PS, obs, hbg, hsd, hof, hinj⟩ := id hsq
                refine lv_iinc (v := nI (4)) (lv' := [(8, .int _), (9, .int _), (7, .int _), (6, .ref _), (5, .ref _), (0, .ref _), (1, .ref _), (2, .ref _), (3, .ref _), (4, .int _)]) hx hb dX1_mixOffers_89 hl (k := 1) rfl (nI_iinc _ 1 rfl) (by decide) rfl (fun ls hl => ?_)
                refine lv_goto (tgt := 68) hx hb dX1_mixOffers_92 (by decide) ?_
                refine lv_iload hx hb dX1_mixOffers_68 (lv_at hl 0 rfl) ?_
                refine lv_iload hx hb dX1_mixOffers_70 (lv_at hl 2 rfl) ?_
                refine n_icmp_ge (tgt := 95) X dX1_mixOffers_72 (by decide) (by omega) (by omega) (fun c_72 => ?_) (fun c_72 => ?_)
                ·
                  refine lv_aload_n hx hb dX1_mixOffers_95 rfl (lv_at hl 5 rfl) ?_
                  refine lv_aload_n hx hb dX1_mixOffers_96 rfl (lv_at hl 5 rfl) ?_
                  refine r_get (C := RX1) (T := TX1) (N := 5) (ci := 1) X in_X1 rfl 0 (Nat.le_of_ble_eq_true rfl) q280 (fun _ h => h) ob rfl dX1_mixOffers_97 ?_
                  refine r_getN (C := RX2) (T := TX2) (N := 4) (ci := 2) X in_X2 rfl 1 (Nat.le_of_ble_eq_true rfl) q213 (fun _ h => h) obs rfl dX1_mixOffers_100 ?_
                  refine lv_aload hx hb dX1_mixOffers_103 (lv_at hl 4 rfl) ?_
                  refine Cp.callV (v := .int (bI (cB ro k))) (ct_X4_counts l g PS ro sd I (mv ro k) (x k) ) X hL hl vb_X4_counts q1177 (hsd.recv hKV) rfl rfl (Nat.le_of_ble_eq_true rfl) dX1_mixOffers_105 ⟨Nat.le_of_ble_eq_true rfl, Nat.le_of_ble_eq_true rfl⟩ (by omega) (by omega) ⟨hsd, ov, i1, i2, l1, l2, ow, oa⟩ (fun locs hL => ?_)
                  refine Cp.callS (v := .int (bI (cB ro k))) (ct_X1_flag l g (cB ro k) ) X hL hl sb_X1_flag q1178 rfl rfl (Nat.le_of_ble_eq_true rfl) dX1_mixOffers_108 ⟨Nat.le_of_ble_eq_true rfl, Nat.le_of_ble_eq_true rfl⟩ (by omega) (by omega) trivial (fun locs hL => ?_)
                  refine lv_i2l hx hb dX1_mixOffers_111 rfl ?_
                  refine W.stkL (w :=  (bL (cB ro k))) (bI_L _) ?_
                  refine Ct.callV (ct_X1_mix l g o sta dq sl bf h4 (bL (cB ro k)) loo) X hL hl vb_X1_mix q1148 (ob.recv hKV rfl) rfl rfl (Nat.le_of_ble_eq_true rfl) dX1_mixOffers_112 ⟨Nat.le_of_ble_eq_true rfl, Nat.le_of_ble_eq_true rfl⟩ (by omega) (by omega) ob (fun r H locs hL hp => ?_)
                  obtain ⟨rfl, ob, hon⟩ := hp
                  obtain ⟨h5, eh5⟩ : ∃ z, z = 31 * h4 + (bL (cB ro k)) := ⟨_, rfl⟩
                  rw [← eh5] at ob
                  have hst := hst.keep (hon.chg rfl)
                  have ow := ow.on hon (hIo _ i1)
                  have oa := oa.on hon (hIo _ i2)
                  have hbw := hbw.keep (Q := fun q => q = o) (hon.chg rfl) (fun q h1 h2 => h1 h2) (by omega)
                  have hlb := hlb.on hon hlo
                  have hrb := hrb.on hon hro
                  have hC := hC.trans (hon.chg rfl)
                  have hsq := hst.q
                  obtain ⟨sb, sd, PG, PS, obs, hbg, hsd, hof, hinj⟩ := id hsq
                  refine lv_aload_n hx hb dX1_mixOffers_115 rfl (lv_at hl 5 rfl) ?_
                  refine lv_aload_n hx hb dX1_mixOffers_116 rfl (lv_at hl 5 rfl) ?_
                  refine r_get (C := RX1) (T := TX1) (N := 5) (ci := 1) X in_X1 rfl 0 (Nat.le_of_ble_eq_true rfl) q280 (fun _ h => h) ob rfl dX1_mixOffers_117 ?_
                  refine lv_aload hx hb dX1_mixOffers_120 (lv_at hl 4 rfl) ?_
                  refine Ct.callV (ct_X2_beaters l g ro n x sta (mv ro k) (x k) hn hw) X hL hl vb_X2_beaters q1179 (hsq.recv hKV) rfl rfl (Nat.le_of_ble_eq_true rfl) dX1_mixOffers_122 ⟨Nat.le_of_ble_eq_true rfl, Nat.le_of_ble_eq_true rfl⟩ (by omega) (by omega) ⟨hsq, ⟨I, ov, i1, i2, l1, l2, ow, oa⟩⟩ (fun r H locs hL hp => ?_)
                  obtain ⟨rfl, hE1⟩ := hp
                  have ob := ob.ext hE1
                  have hst := hst.ext hE1
                  have ow := ow.ext hE1
                  have oa := oa.ext hE1
                  have hbw := hbw.ext hE1
                  have hlb := hlb.ext hE1
                  have hrb := hrb.ext hE1
                  have hC := hC.trans hE1.chg
                  have hsq := hst.q
                  obtain ⟨sb, sd, PG, PS, obs, hbg, hsd, hof, hinj⟩ := id hsq
                  refine W.stk (w := (nI (cnt (fun j => beatB ro j k) n))) (congrArg nI (jn_bs ro n k)) ?_
                  refine lv_i2l hx hb dX1_mixOffers_125 rfl ?_
                  refine Ct.callV (ct_X1_mix l g o sta dq sl bf h5 ((nI (cnt (fun j => beatB ro j k) n)).toInt64) loo) X hL hl vb_X1_mix q1148 (ob.recv hKV rfl) rfl rfl (Nat.le_of_ble_eq_true rfl) dX1_mixOffers_126 ⟨Nat.le_of_ble_eq_true rfl, Nat.le_of_ble_eq_true rfl⟩ (by omega) (by omega) ob (fun r H locs hL hp => ?_)
                  obtain ⟨rfl, ob, hon⟩ := hp
                  obtain ⟨h6, eh6⟩ : ∃ z, z = 31 * h5 + ((nI (cnt (fun j => beatB ro j k) n)).toInt64) := ⟨_, rfl⟩
                  rw [← eh6] at ob
                  have hst := hst.keep (hon.chg rfl)
                  have ow := ow.on hon (hIo _ i1)
                  have oa := oa.on hon (hIo _ i2)
                  have hbw := hbw.keep (Q := fun q => q = o) (hon.chg rfl) (fun q h1 h2 => h1 h2) (by omega)
                  have hlb := hlb.on hon hlo
                  have hrb := hrb.on hon hro
                  have hC := hC.trans (hon.chg rfl)
                  have hsq := hst.q
                  obtain ⟨sb, sd, PG, PS, obs, hbg, hsd, hof, hinj⟩ := id hsq
                  refine lv_aload_n hx hb dX1_mixOffers_129 rfl (lv_at hl 5 rfl) ?_
                  refine lv_aload_n hx hb dX1_mixOffers_130 rfl (lv_at hl 5 rfl) ?_
                  refine r_get (C := RX1) (T := TX1) (N := 5) (ci := 1) X in_X1 rfl 0 (Nat.le_of_ble_eq_true rfl) q280 (fun _ h => h) ob rfl dX1_mixOffers_131 ?_
                  refine lv_aload hx hb dX1_mixOffers_134 (lv_at hl 4 rfl) ?_
                  refine Ct.callV (ct_X2_beaten l g ro n x sta (mv ro k) (x k) hn hw) X hL hl vb_X2_beaten q1186 (hsq.recv hKV) rfl rfl (Nat.le_of_ble_eq_true rfl) dX1_mixOffers_136 ⟨Nat.le_of_ble_eq_true rfl, Nat.le_of_ble_eq_true rfl⟩ (by omega) (by omega) ⟨hsq, ⟨I, ov, i1, i2, l1, l2, ow, oa⟩⟩ (fun r H locs hL hp => ?_)
                  obtain ⟨rfl, hE1⟩ := hp
                  have ob := ob.ext hE1
                  have hst := hst.ext hE1
                  have ow := ow.ext hE1
                  have oa := oa.ext hE1
                  have hbw := hbw.ext hE1
                  have hlb := hlb.ext hE1
                  have hrb := hrb.ext hE1
                  have hC := hC.trans hE1.chg
                  have hsq := hst.q
                  obtain ⟨sb, sd, PG, PS, obs, hbg, hsd, hof, hinj⟩ := id hsq
                  refine W.stk (w := (nI (cnt (beatB ro k) n))) (congrArg nI (jn_bn ro n k)) ?_
                  refine lv_i2l hx hb dX1_mixOffers_139 rfl ?_
                  refine Ct.callV (ct_X1_mix l g o sta dq sl bf h6 ((nI (cnt (beatB ro k) n)).toInt64) loo) X hL hl vb_X1_mix q1148 (ob.recv hKV rfl) rfl rfl (Nat.le_of_ble_eq_true rfl) dX1_mixOffers_140 ⟨Nat.le_of_ble_eq_true rfl, Nat.le_of_ble_eq_true rfl⟩ (by omega) (by omega) ob (fun r H locs hL hp => ?_)
                  obtain ⟨rfl, ob, hon⟩ := hp
                  obtain ⟨h7, eh7⟩ : ∃ z, z = 31 * h6 + ((nI (cnt (beatB ro k) n)).toInt64) := ⟨_, rfl⟩
                  rw [← eh7] at ob
                  have hst := hst.keep (hon.chg rfl)
                  have ow := ow.on hon (hIo _ i1)
                  have oa := oa.on hon (hIo _ i2)
                  have hbw := hbw.keep (Q := fun q => q = o) (hon.chg rfl) (fun q h1 h2 => h1 h2) (by omega)
                  have hlb := hlb.on hon hlo
                  have hrb := hrb.on hon hro
                  have hC := hC.trans (hon.chg rfl)
                  have hsq := hst.q
                  obtain ⟨sb, sd, PG, PS, obs, hbg, hsd, hof, hinj⟩ := id hsq
                  refine lv_aload_n hx hb dX1_mixOffers_143 rfl (lv_at hl 5 rfl) ?_
                  refine lv_aload_n hx hb dX1_mixOffers_144 rfl (lv_at hl 5 rfl) ?_
                  refine r_get (C := RX1) (T := TX1) (N := 5) (ci := 1) X in_X1 rfl 0 (Nat.le_of_ble_eq_true rfl) q280 (fun _ h => h) ob rfl dX1_mixOffers_145 ?_
                  refine lv_aload hx hb dX1_mixOffers_148 (lv_at hl 4 rfl) ?_
                  refine Ct.callV (ct_X2_isTold l g ro n x sta (mv ro k) (x k) hn hw) X hL hl vb_X2_isTold q1187 (hsq.recv hKV) rfl rfl (Nat.le_of_ble_eq_true rfl) dX1_mixOffers_150 ⟨Nat.le_of_ble_eq_true rfl, Nat.le_of_ble_eq_true rfl⟩ (by omega) (by omega) ⟨hsq, ⟨I, ov, i1, i2, l1, l2, ow, oa⟩⟩ (fun r H locs hL hp => ?_)
                  obtain ⟨rfl, hE1⟩ := hp
                  have ob := ob.ext hE1
                  have hst := hst.ext hE1
                  have ow := ow.ext hE1
                  have oa := oa.ext hE1
                  have hbw := hbw.ext hE1
                  have hlb := hlb.ext hE1
                  have hrb := hrb.ext hE1
                  have hC := hC.trans hE1.chg
                  have hsq := hst.q
                  obtain ⟨sb, sd, PG, PS, obs, hbg, hsd, hof, hinj⟩ := id hsq
                  refine W.stk (w := (bI (isTB ro n k))) (congrArg bI (jn_told ro n k)) ?_
                  refine Cp.callS (v := .int (bI (isTB ro n k))) (ct_X1_flag l g (isTB ro n k) ) X hL hl sb_X1_flag q1178 rfl rfl (Nat.le_of_ble_eq_true rfl) dX1_mixOffers_153 ⟨Nat.le_of_ble_eq_true rfl, Nat.le_of_ble_eq_true rfl⟩ (by omega) (by omega) trivial (fun locs hL => ?_)
                  refine lv_i2l hx hb dX1_mixOffers_156 rfl ?_
                  refine W.stkL (w :=  (bL (isTB ro n k))) (bI_L _) ?_
                  refine Ct.callV (ct_X1_mix l g o sta dq sl bf h7 (bL (isTB ro n k)) loo) X hL hl vb_X1_mix q1148 (ob.recv hKV rfl) rfl rfl (Nat.le_of_ble_eq_true rfl) dX1_mixOffers_157 ⟨Nat.le_of_ble_eq_true rfl, Nat.le_of_ble_eq_true rfl⟩ (by omega) (by omega) ob (fun r H locs hL hp => ?_)
                  obtain ⟨rfl, ob, hon⟩ := hp
                  obtain ⟨h8, eh8⟩ : ∃ z, z = 31 * h7 + (bL (isTB ro n k)) := ⟨_, rfl⟩
                  rw [← eh8] at ob
                  have hst := hst.keep (hon.chg rfl)
                  have ow := ow.on hon (hIo _ i1)
                  have oa := oa.on hon (hIo _ i2)
                  have hbw := hbw.keep (Q := fun q => q = o) (hon.chg rfl) (fun q h1 h2 => h1 h2) (by omega)
                  have hlb := hlb.on hon hlo
                  have hrb := hrb.on hon hro
                  have hC := hC.trans (hon.chg rfl)
                  have hsq := hst.q
                  obtain ⟨sb, sd, PG, PS, obs, hbg, hsd, hof, hinj⟩ := id hsq
                  refine lv_aload_n hx hb dX1_mixOffers_160 rfl (lv_at hl 5 rfl) ?_
                  refine lv_aload_n hx hb dX1_mixOffers_161 rfl (lv_at hl 5 rfl) ?_
                  refine lv_aload_n hx hb dX1_mixOffers_162 rfl (lv_at hl 6 rfl) ?_
                  refine lv_aload hx hb dX1_mixOffers_163 (lv_at hl 4 rfl) ?_
                  refine Ct.callV (ct_X1_isInWindow l g ro x (winL ro n) o bw (mv ro k) (x k) (Nat.le_trans (win_lt ro n).2 hn)) X hL hl vb_X1_isInWindow q1192 (ob.recv hKV rfl) rfl rfl (Nat.le_of_ble_eq_true rfl) dX1_mixOffers_165 ⟨Nat.le_of_ble_eq_true rfl, Nat.le_of_ble_eq_true rfl⟩ (by omega) (by omega) ⟨⟨_, hbw⟩, hof.sub (fun j hj => rng_mem ((win_lt ro n).1 j hj)), I, ov, i1, i2, l1, l2, ow, oa⟩ (fun r H locs hL hp => ?_)
                  obtain ⟨rfl, hE1⟩ := hp
                  have ob := ob.ext hE1
                  have hst := hst.ext hE1
                  have ow := ow.ext hE1
                  have oa := oa.ext hE1
                  have hbw := hbw.ext hE1
                  have hlb := hlb.ext hE1
                  have hrb := hrb.ext hE1
                  have hC := hC.trans hE1.chg
                  have hsq := hst.q
                  obtain ⟨sb, sd, PG, PS, obs, hbg, hsd, hof, hinj⟩ := id hsq
                  refine W.stk (w := (bI (isTB ro n k))) (congrArg bI (jn_win hR (by omega) hinj)) ?_
                  refine Cp.callS (v := .int (bI (isTB ro n k))) (ct_X1_flag l g (isTB ro n k) ) X hL hl sb_X1_flag q1178 rfl rfl (Nat.le_of_ble_eq_true rfl) dX1_mixOffers_168 ⟨Nat.le_of_ble_eq_true rfl, Nat.le_of_ble_eq_true rfl⟩ (by omega) (by omega) trivial (fun locs hL => ?_)
                  refine lv_i2l hx hb dX1_mixOffers_171 rfl ?_
                  refine W.stkL (w :=  (bL (isTB ro n k))) (bI_L _) ?_
                  refine Ct.callV (ct_X1_mix l g o sta dq sl bf h8 (bL (isTB ro n k)) loo) X hL hl vb_X1_mix q1148 (ob.recv hKV rfl) rfl rfl (Nat.le_of_ble_eq_true rfl) dX1_mixOffers_172 ⟨Nat.le_of_ble_eq_true rfl, Nat.le_of_ble_eq_true rfl⟩ (by omega) (by omega) ob (fun r H locs hL hp => ?_)
                  obtain ⟨rfl, ob, hon⟩ := hp
                  obtain ⟨h9, eh9⟩ : ∃ z, z = 31 * h8 + (bL (isTB ro n k)) := ⟨_, rfl⟩
                  rw [← eh9] at ob
                  have hst := hst.keep (hon.chg rfl)
                  have ow := ow.on hon (hIo _ i1)
                  have oa := oa.on hon (hIo _ i2)
                  have hbw := hbw.keep (Q := fun q => q = o) (hon.chg rfl) (fun q h1 h2 => h1 h2) (by omega)
                  have hlb := hlb.on hon hlo
                  have hrb := hrb.on hon hro
                  have hC := hC.trans (hon.chg rfl)
                  have hsq := hst.q
                  obtain ⟨sb, sd, PG, PS, obs, hbg, hsd, hof, hinj⟩ := id hsq
                  refine lv_aload_n hx hb dX1_mixOffers_175 rfl (lv_at hl 5 rfl) ?_
                  refine lv_aload_n hx hb dX1_mixOffers_176 rfl (lv_at hl 7 rfl) ?_
                  refine lv_iload hx hb dX1_mixOffers_177 (lv_at hl 9 rfl) ?_
                  refine r_ild X hlb k (nI_cl (by omega) rfl) (nI_nn (by omega) rfl) (by omega) dX1_mixOffers_179 ?_
                  rw [show lbf k = (nI (LY ro n k)) from (hlbf _ (by omega))]
                  refine lv_i2l hx hb dX1_mixOffers_180 rfl ?_
                  refine Ct.callV (ct_X1_mix l g o sta dq sl bf h9 ((nI (LY ro n k)).toInt64) loo) X hL hl vb_X1_mix q1148 (ob.recv hKV rfl) rfl rfl (Nat.le_of_ble_eq_true rfl) dX1_mixOffers_181 ⟨Nat.le_of_ble_eq_true rfl, Nat.le_of_ble_eq_true rfl⟩ (by omega) (by omega) ob (fun r H locs hL hp => ?_)
                  obtain ⟨rfl, ob, hon⟩ := hp
                  obtain ⟨h10, eh10⟩ : ∃ z, z = 31 * h9 + ((nI (LY ro n k)).toInt64) := ⟨_, rfl⟩
                  rw [← eh10] at ob
                  have hst := hst.keep (hon.chg rfl)
                  have ow := ow.on hon (hIo _ i1)
                  have oa := oa.on hon (hIo _ i2)
                  have hbw := hbw.keep (Q := fun q => q = o) (hon.chg rfl) (fun q h1 h2 => h1 h2) (by omega)
                  have hlb := hlb.on hon hlo
                  have hrb := hrb.on hon hro
                  have hC := hC.trans (hon.chg rfl)
                  have hsq := hst.q
                  obtain ⟨sb, sd, PG, PS, obs, hbg, hsd, hof, hinj⟩ := id hsq
                  refine lv_aload_n hx hb dX1_mixOffers_184 rfl (lv_at hl 5 rfl) ?_
                  refine lv_aload_n hx hb dX1_mixOffers_185 rfl (lv_at hl 8 rfl) ?_
                  refine lv_iload hx hb dX1_mixOffers_186 (lv_at hl 9 rfl) ?_
                  refine r_ild X hrb k (nI_cl (by omega) rfl) (nI_nn (by omega) rfl) (by omega) dX1_mixOffers_188 ?_
                  rw [show rbf k = (nI (LY ro n k)) from (hrbf _ (by omega))]
                  refine lv_i2l hx hb dX1_mixOffers_189 rfl ?_
                  refine Ct.callV (ct_X1_mix l g o sta dq sl bf h10 ((nI (LY ro n k)).toInt64) loo) X hL hl vb_X1_mix q1148 (ob.recv hKV rfl) rfl rfl (Nat.le_of_ble_eq_true rfl) dX1_mixOffers_190 ⟨Nat.le_of_ble_eq_true rfl, Nat.le_of_ble_eq_true rfl⟩ (by omega) (by omega) ob (fun r H locs hL hp => ?_)
                  obtain ⟨rfl, ob, hon⟩ := hp
                  obtain ⟨h11, eh11⟩ : ∃ z, z = 31 * h10 + ((nI (LY ro n k)).toInt64) := ⟨_, rfl⟩
                  rw [← eh11] at ob
                  have hst := hst.keep (hon.chg rfl)
                  have ow := ow.on hon (hIo _ i1)
                  have oa := oa.on hon (hIo _ i2)
                  have hbw := hbw.keep (Q := fun q => q = o) (hon.chg rfl) (fun q h1 h2 => h1 h2) (by omega)
                  have hlb := hlb.on hon hlo
                  have hrb := hrb.on hon hro
                  have hC := hC.trans (hon.chg rfl)
                  have hsq := hst.q
                  obtain ⟨sb, sd, PG, PS, obs, hbg, hsd, hof, hinj⟩ := id hsq
                  refine lv_aload_n hx hb dX1_mixOffers_193 rfl (lv_at hl 5 rfl) ?_
                  refine lv_aload_n hx hb dX1_mixOffers_194 rfl (lv_at hl 5 rfl) ?_
                  refine r_get (C := RX1) (T := TX1) (N := 5) (ci := 1) X in_X1 rfl 0 (Nat.le_of_ble_eq_true rfl) q280 (fun _ h => h) ob rfl dX1_mixOffers_195 ?_
                  refine r_getN (C := RX2) (T := TX2) (N := 4) (ci := 2) X in_X2 rfl 1 (Nat.le_of_ble_eq_true rfl) q213 (fun _ h => h) obs rfl dX1_mixOffers_198 ?_
                  refine lv_aload hx hb dX1_mixOffers_201 (lv_at hl 4 rfl) ?_
                  refine Cp.callV (v := .int (scoI ro k)) (ct_X4_score l g PS ro sd I (mv ro k) (x k) hw) X hL hl vb_X4_score q1199 (hsd.recv hKV) rfl rfl (Nat.le_of_ble_eq_true rfl) dX1_mixOffers_203 ⟨Nat.le_of_ble_eq_true rfl, Nat.le_of_ble_eq_true rfl⟩ (by omega) (by omega) ⟨hsd, ov, i1, i2, l1, l2, ow, oa⟩ (fun locs hL => ?_)
                  refine lv_i2l hx hb dX1_mixOffers_206 rfl ?_
                  refine Ct.callV (ct_X1_mix l g o sta dq sl bf h11 ((scoI ro k).toInt64) loo) X hL hl vb_X1_mix q1148 (ob.recv hKV rfl) rfl rfl (Nat.le_of_ble_eq_true rfl) dX1_mixOffers_207 ⟨Nat.le_of_ble_eq_true rfl, Nat.le_of_ble_eq_true rfl⟩ (by omega) (by omega) ob (fun r H locs hL hp => ?_)
                  obtain ⟨rfl, ob, hon⟩ := hp
                  obtain ⟨h12, eh12⟩ : ∃ z, z = 31 * h11 + ((scoI ro k).toInt64) := ⟨_, rfl⟩
                  rw [← eh12] at ob
                  have hst := hst.keep (hon.chg rfl)
                  have ow := ow.on hon (hIo _ i1)
                  have oa := oa.on hon (hIo _ i2)
                  have hbw := hbw.keep (Q := fun q => q = o) (hon.chg rfl) (fun q h1 h2 => h1 h2) (by omega)
                  have hlb := hlb.on hon hlo
                  have hrb := hrb.on hon hro
                  have hC := hC.trans (hon.chg rfl)
                  have hsq := hst.q
                  obtain ⟨sb, sd, PG, PS, obs, hbg, hsd, hof, hinj⟩ := id hsq
                  refine lv_iinc (v := nI (k + 1)) (lv' := [(4, .int _), (8, .int _), (9, .int _), (7, .int _), (6, .ref _), (5, .ref _), (0, .ref _), (1, .ref _), (2, .ref _), (3, .ref _)]) hx hb dX1_mixOffers_210 hl (k := 9) rfl (nI_iinc _ 1 rfl) (by decide) rfl (fun ls hl => ?_)
                  refine lv_goto (tgt := 27) hx hb dX1_mixOffers_213 (by decide) ?_
                  exact W.widen (by omega) (by omega) (ih27 (k + 1) h12 (by omega) (by omega) (by rw [ofA, mxs_app, ← hhv, eh12, eh11, eh10, eh9, eh8, eh7, eh6, eh5, eh4, eh3, eh2, eh1]; rfl) _ ob hst hbw hlb hrb hC _ hL ls (lv_sub hl [6, 7, 8, 9, 0] rfl))
                ·
                  exact absurd c_72 (by decide)
  exact W.widen (by omega) (by omega) (L27 (n + 1) 0 hh (by omega) (by omega) rfl _ ob hst hbw hlb hrb hC _ hL ls (lv_sub hl [4, 3, 2, 1, 0] rfl))
theorem vb_X1_mixOffers : VB yX1_mixOffers cX1_mixOffers 10 none 0 := ⟨q1155, qs28, q99, q1156, ⟨by decide, by decide, by decide +kernel⟩⟩

set_option maxRecDepth 100000 in
set_option maxHeartbeats 4000000 in
theorem ct_X1_mixTold (l : Launch) (g : GT) (ro : Nat → Int32) (n : Nat) (x : Nat → Nat) (o sta dq sl bf : Nat) (hh : Int64) (loo : gLo g ≤ o) (hn : n ≤ 40) (hR : RO ro n) : Ct l g yX1_mixTold cX1_mixTold 2 none 20 2900 20500 [.ref o] (fun H => Ob g o 1 [.ref sta, .ref dq, .ref sl, .ref bf, .long hh] H ∧ StW g (fun q => q = o) ro n x sta H) (fun r H H1 => r = none ∧ Ob g o 1 [.ref sta, .ref dq, .ref sl, .ref bf, .long (mxs hh (te3L ro n ++ someA ro n))] H1 ∧ StW g (fun q => q = o) ro n x sta H1 ∧ Chg (fun q => q = o) H H1) := by
  refine Ct.of (by decide) (Nat.le_of_ble_eq_true rfl) ?_
  intro p e s m args below meth c X hP ls hl
  have hx := X.1
  have hb := X.2.1
  have hKV := X.2.2.2.2.2.2.2.1.1
  have hL : ∀ q ∈ ([] : List Loc), gLo g ≤ q.base := fun _ h => by cases h
  obtain ⟨ob, hst⟩ := hP
  have hw := hR.w
  have hsq := hst.q
  obtain ⟨sb, sd, PG, PS, obs, hbg, hsd, hof, hinj⟩ := id hsq
  have hl : lv_has ls 2 [(0, .ref o)] := hl
  have hC : Chg (fun q => q = o) s.heap s.heap := Chg.rfl'
  have hgE := hKV.gE
  refine lv_aload_n hx hb dX1_mixTold_0 rfl (lv_at hl 0 rfl) ?_
  refine lv_aload_n hx hb dX1_mixTold_1 rfl (lv_at hl 0 rfl) ?_
  refine Ct.callV (ct_X1_manyTold l g ro n x o sta dq sl bf hh hn hw) X hL hl vb_X1_manyTold q1003 (ob.recv hKV rfl) rfl rfl (Nat.le_of_ble_eq_true rfl) dX1_mixTold_2 ⟨Nat.le_of_ble_eq_true rfl, Nat.le_of_ble_eq_true rfl⟩ (by omega) (by omega) ⟨ob, hsq⟩ (fun r H locs hL hp => ?_)
  obtain ⟨rfl, hE1⟩ := hp
  have ob := ob.ext hE1
  have hst := hst.ext hE1
  have hC := hC.trans hE1.chg
  have hsq := hst.q
  obtain ⟨sb, sd, PG, PS, obs, hbg, hsd, hof, hinj⟩ := id hsq
  refine lv_i2l hx hb dX1_mixTold_5 rfl ?_
  refine Ct.callV (ct_X1_mix l g o sta dq sl bf hh ((nI (cnt (tellB ro n (hasB (matI (mw ro)))) n)).toInt64) loo) X hL hl vb_X1_mix q1148 (ob.recv hKV rfl) rfl rfl (Nat.le_of_ble_eq_true rfl) dX1_mixTold_6 ⟨Nat.le_of_ble_eq_true rfl, Nat.le_of_ble_eq_true rfl⟩ (by omega) (by omega) ob (fun r H locs hL hp => ?_)
  obtain ⟨rfl, ob, hon⟩ := hp
  obtain ⟨h1, eh1⟩ : ∃ z, z = 31 * hh + ((nI (cnt (tellB ro n (hasB (matI (mw ro)))) n)).toInt64) := ⟨_, rfl⟩
  rw [← eh1] at ob
  have hst := hst.keep (hon.chg rfl)
  have hC := hC.trans (hon.chg rfl)
  have hsq := hst.q
  obtain ⟨sb, sd, PG, PS, obs, hbg, hsd, hof, hinj⟩ := id hsq
  refine lv_aload_n hx hb dX1_mixTold_9 rfl (lv_at hl 0 rfl) ?_
  refine lv_aload_n hx hb dX1_mixTold_10 rfl (lv_at hl 0 rfl) ?_
  refine r_get (C := RX1) (T := TX1) (N := 5) (ci := 1) X in_X1 rfl 0 (Nat.le_of_ble_eq_true rfl) q280 (fun _ h => h) ob rfl dX1_mixTold_11 ?_
  refine Ct.callV (ct_X2_bySums l g ro n x sta hn hw) X hL hl vb_X2_bySums q1012 (hsq.recv hKV) rfl rfl (Nat.le_of_ble_eq_true rfl) dX1_mixTold_14 ⟨Nat.le_of_ble_eq_true rfl, Nat.le_of_ble_eq_true rfl⟩ (by omega) (by omega) hsq (fun r H locs hL hp => ?_)
  obtain ⟨rfl, hE1⟩ := hp
  have ob := ob.ext hE1
  have hst := hst.ext hE1
  have hC := hC.trans hE1.chg
  have hsq := hst.q
  obtain ⟨sb, sd, PG, PS, obs, hbg, hsd, hof, hinj⟩ := id hsq
  refine W.stk (w := (nI (cnt (tellB ro n (hasB (matI (mw ro)))) n))) (congrArg nI (sums_len hR)) ?_
  refine lv_i2l hx hb dX1_mixTold_17 rfl ?_
  refine Ct.callV (ct_X1_mix l g o sta dq sl bf h1 ((nI (cnt (tellB ro n (hasB (matI (mw ro)))) n)).toInt64) loo) X hL hl vb_X1_mix q1148 (ob.recv hKV rfl) rfl rfl (Nat.le_of_ble_eq_true rfl) dX1_mixTold_18 ⟨Nat.le_of_ble_eq_true rfl, Nat.le_of_ble_eq_true rfl⟩ (by omega) (by omega) ob (fun r H locs hL hp => ?_)
  obtain ⟨rfl, ob, hon⟩ := hp
  obtain ⟨h2, eh2⟩ : ∃ z, z = 31 * h1 + ((nI (cnt (tellB ro n (hasB (matI (mw ro)))) n)).toInt64) := ⟨_, rfl⟩
  rw [← eh2] at ob
  have hst := hst.keep (hon.chg rfl)
  have hC := hC.trans (hon.chg rfl)
  have hsq := hst.q
  obtain ⟨sb, sd, PG, PS, obs, hbg, hsd, hof, hinj⟩ := id hsq
  refine lv_aload_n hx hb dX1_mixTold_21 rfl (lv_at hl 0 rfl) ?_
  refine lv_aload_n hx hb dX1_mixTold_22 rfl (lv_at hl 0 rfl) ?_
  refine r_get (C := RX1) (T := TX1) (N := 5) (ci := 1) X in_X1 rfl 0 (Nat.le_of_ble_eq_true rfl) q280 (fun _ h => h) ob rfl dX1_mixTold_23 ?_
  refine lv_aload_n hx hb dX1_mixTold_26 rfl (lv_at hl 0 rfl) ?_
  refine r_get (C := RX1) (T := TX1) (N := 5) (ci := 1) X in_X1 rfl 0 (Nat.le_of_ble_eq_true rfl) q280 (fun _ h => h) ob rfl dX1_mixTold_27 ?_
  refine Ct.callV (ct_X2_peeled l g ro n x sta hn hw hR) X hL hl vb_X2_peeled q1069 (hsq.recv hKV) rfl rfl (Nat.le_of_ble_eq_true rfl) dX1_mixTold_30 ⟨Nat.le_of_ble_eq_true rfl, Nat.le_of_ble_eq_true rfl⟩ (by omega) (by omega) hsq (fun r H locs hL hp => ?_)
  obtain ⟨lb, lbf, ⟨hlb, -, hlbf⟩, rfl, hE1⟩ := hp
  have ob := ob.ext hE1
  have hst := hst.ext hE1
  have hC := hC.trans hE1.chg
  have hsq := hst.q
  obtain ⟨sb, sd, PG, PS, obs, hbg, hsd, hof, hinj⟩ := id hsq
  refine Cp.callV (v := .int (nI (maxN (LY ro n) n))) (ct_X2_greatestOf l g sta lb n lbf (LY ro n) hn hlbf (fun j _ => Nat.le_trans (LY_le _ _ _) (by omega))) X hL hl vb_X2_greatestOf q1081 (hsq.recv hKV) rfl rfl (Nat.le_of_ble_eq_true rfl) dX1_mixTold_33 ⟨Nat.le_of_ble_eq_true rfl, Nat.le_of_ble_eq_true rfl⟩ (by omega) (by omega) hlb (fun locs hL => ?_)
  refine lv_i2l hx hb dX1_mixTold_36 rfl ?_
  refine Ct.callV (ct_X1_mix l g o sta dq sl bf h2 ((nI (maxN (LY ro n) n)).toInt64) loo) X hL hl vb_X1_mix q1148 (ob.recv hKV rfl) rfl rfl (Nat.le_of_ble_eq_true rfl) dX1_mixTold_37 ⟨Nat.le_of_ble_eq_true rfl, Nat.le_of_ble_eq_true rfl⟩ (by omega) (by omega) ob (fun r H locs hL hp => ?_)
  obtain ⟨rfl, ob, hon⟩ := hp
  obtain ⟨h3, eh3⟩ : ∃ z, z = 31 * h2 + ((nI (maxN (LY ro n) n)).toInt64) := ⟨_, rfl⟩
  rw [← eh3] at ob
  have hst := hst.keep (hon.chg rfl)
  have hC := hC.trans (hon.chg rfl)
  have hsq := hst.q
  obtain ⟨sb, sd, PG, PS, obs, hbg, hsd, hof, hinj⟩ := id hsq
  refine lv_aload_n hx hb dX1_mixTold_40 rfl (lv_at hl 0 rfl) ?_
  refine lv_aload_n hx hb dX1_mixTold_41 rfl (lv_at hl 0 rfl) ?_
  refine r_get (C := RX1) (T := TX1) (N := 5) (ci := 1) X in_X1 rfl 0 (Nat.le_of_ble_eq_true rfl) q280 (fun _ h => h) ob rfl dX1_mixTold_42 ?_
  refine lv_iconst (v := nI 3) hx hb dX1_mixTold_45 (by decide) ?_
  refine Ct.callV (ct_X2_toldBy l g ro n x sta (nI 3) hn hw) X hL hl vb_X2_toldBy q1207 (hsq.recv hKV) rfl rfl (Nat.le_of_ble_eq_true rfl) dX1_mixTold_46 ⟨Nat.le_of_ble_eq_true rfl, Nat.le_of_ble_eq_true rfl⟩ (by omega) (by omega) hsq (fun r H locs hL hp => ?_)
  obtain ⟨rfl, hE1⟩ := hp
  have ob := ob.ext hE1
  have hst := hst.ext hE1
  have hC := hC.trans hE1.chg
  have hsq := hst.q
  obtain ⟨sb, sd, PG, PS, obs, hbg, hsd, hof, hinj⟩ := id hsq
  refine W.stk (w := (nI (cnt (tellB ro n (hasB (nI 3 &&& matI (mw ro)))) n))) (congrArg nI (jn_on ro (nI 3) n)) ?_
  refine lv_i2l hx hb dX1_mixTold_49 rfl ?_
  refine Ct.callV (ct_X1_mix l g o sta dq sl bf h3 ((nI (cnt (tellB ro n (hasB (nI 3 &&& matI (mw ro)))) n)).toInt64) loo) X hL hl vb_X1_mix q1148 (ob.recv hKV rfl) rfl rfl (Nat.le_of_ble_eq_true rfl) dX1_mixTold_50 ⟨Nat.le_of_ble_eq_true rfl, Nat.le_of_ble_eq_true rfl⟩ (by omega) (by omega) ob (fun r H locs hL hp => ?_)
  obtain ⟨rfl, ob, hon⟩ := hp
  obtain ⟨h4, eh4⟩ : ∃ z, z = 31 * h3 + ((nI (cnt (tellB ro n (hasB (nI 3 &&& matI (mw ro)))) n)).toInt64) := ⟨_, rfl⟩
  rw [← eh4] at ob
  have hst := hst.keep (hon.chg rfl)
  have hC := hC.trans (hon.chg rfl)
  have hsq := hst.q
  obtain ⟨sb, sd, PG, PS, obs, hbg, hsd, hof, hinj⟩ := id hsq
  refine lv_aload_n hx hb dX1_mixTold_53 rfl (lv_at hl 0 rfl) ?_
  refine lv_aload_n hx hb dX1_mixTold_54 rfl (lv_at hl 0 rfl) ?_
  refine r_get (C := RX1) (T := TX1) (N := 5) (ci := 1) X in_X1 rfl 0 (Nat.le_of_ble_eq_true rfl) q280 (fun _ h => h) ob rfl dX1_mixTold_55 ?_
  refine lv_bipush (v := nI 12) hx hb dX1_mixTold_58 (by decide) ?_
  refine Ct.callV (ct_X2_toldBy l g ro n x sta (nI 12) hn hw) X hL hl vb_X2_toldBy q1207 (hsq.recv hKV) rfl rfl (Nat.le_of_ble_eq_true rfl) dX1_mixTold_60 ⟨Nat.le_of_ble_eq_true rfl, Nat.le_of_ble_eq_true rfl⟩ (by omega) (by omega) hsq (fun r H locs hL hp => ?_)
  obtain ⟨rfl, hE1⟩ := hp
  have ob := ob.ext hE1
  have hst := hst.ext hE1
  have hC := hC.trans hE1.chg
  have hsq := hst.q
  obtain ⟨sb, sd, PG, PS, obs, hbg, hsd, hof, hinj⟩ := id hsq
  refine W.stk (w := (nI (cnt (tellB ro n (hasB (nI 12 &&& matI (mw ro)))) n))) (congrArg nI (jn_on ro (nI 12) n)) ?_
  refine lv_i2l hx hb dX1_mixTold_63 rfl ?_
  refine Ct.callV (ct_X1_mix l g o sta dq sl bf h4 ((nI (cnt (tellB ro n (hasB (nI 12 &&& matI (mw ro)))) n)).toInt64) loo) X hL hl vb_X1_mix q1148 (ob.recv hKV rfl) rfl rfl (Nat.le_of_ble_eq_true rfl) dX1_mixTold_64 ⟨Nat.le_of_ble_eq_true rfl, Nat.le_of_ble_eq_true rfl⟩ (by omega) (by omega) ob (fun r H locs hL hp => ?_)
  obtain ⟨rfl, ob, hon⟩ := hp
  obtain ⟨h5, eh5⟩ : ∃ z, z = 31 * h4 + ((nI (cnt (tellB ro n (hasB (nI 12 &&& matI (mw ro)))) n)).toInt64) := ⟨_, rfl⟩
  rw [← eh5] at ob
  have hst := hst.keep (hon.chg rfl)
  have hC := hC.trans (hon.chg rfl)
  have hsq := hst.q
  obtain ⟨sb, sd, PG, PS, obs, hbg, hsd, hof, hinj⟩ := id hsq
  refine lv_aload_n hx hb dX1_mixTold_67 rfl (lv_at hl 0 rfl) ?_
  refine lv_aload_n hx hb dX1_mixTold_68 rfl (lv_at hl 0 rfl) ?_
  refine r_get (C := RX1) (T := TX1) (N := 5) (ci := 1) X in_X1 rfl 0 (Nat.le_of_ble_eq_true rfl) q280 (fun _ h => h) ob rfl dX1_mixTold_69 ?_
  refine lv_iconst (v := nI 2) hx hb dX1_mixTold_72 (by decide) ?_
  refine Ct.callV (ct_X2_weakly l g ro n x sta (nI 2) hn hw) X hL hl vb_X2_weakly q1218 (hsq.recv hKV) rfl rfl (Nat.le_of_ble_eq_true rfl) dX1_mixTold_73 ⟨Nat.le_of_ble_eq_true rfl, Nat.le_of_ble_eq_true rfl⟩ (by omega) (by omega) hsq (fun r H locs hL hp => ?_)
  obtain ⟨rfl, hE1⟩ := hp
  have ob := ob.ext hE1
  have hst := hst.ext hE1
  have hC := hC.trans hE1.chg
  have hsq := hst.q
  obtain ⟨sb, sd, PG, PS, obs, hbg, hsd, hof, hinj⟩ := id hsq
  refine W.stk (w := (nI (cnt (fun k => cB ro k && !anyB (wbB ro (nI 2) k) n) n))) (congrArg nI (weak_len ro (nI 2) n)) ?_
  refine lv_i2l hx hb dX1_mixTold_76 rfl ?_
  refine Ct.callV (ct_X1_mix l g o sta dq sl bf h5 ((nI (cnt (fun k => cB ro k && !anyB (wbB ro (nI 2) k) n) n)).toInt64) loo) X hL hl vb_X1_mix q1148 (ob.recv hKV rfl) rfl rfl (Nat.le_of_ble_eq_true rfl) dX1_mixTold_77 ⟨Nat.le_of_ble_eq_true rfl, Nat.le_of_ble_eq_true rfl⟩ (by omega) (by omega) ob (fun r H locs hL hp => ?_)
  obtain ⟨rfl, ob, hon⟩ := hp
  obtain ⟨h6, eh6⟩ : ∃ z, z = 31 * h5 + ((nI (cnt (fun k => cB ro k && !anyB (wbB ro (nI 2) k) n) n)).toInt64) := ⟨_, rfl⟩
  rw [← eh6] at ob
  have hst := hst.keep (hon.chg rfl)
  have hC := hC.trans (hon.chg rfl)
  have hsq := hst.q
  obtain ⟨sb, sd, PG, PS, obs, hbg, hsd, hof, hinj⟩ := id hsq
  refine lv_aload_n hx hb dX1_mixTold_80 rfl (lv_at hl 0 rfl) ?_
  refine lv_aload_n hx hb dX1_mixTold_81 rfl (lv_at hl 0 rfl) ?_
  refine r_get (C := RX1) (T := TX1) (N := 5) (ci := 1) X in_X1 rfl 0 (Nat.le_of_ble_eq_true rfl) q280 (fun _ h => h) ob rfl dX1_mixTold_82 ?_
  refine lv_iconst (v := nI 3) hx hb dX1_mixTold_85 (by decide) ?_
  refine Ct.callV (ct_X2_weakly l g ro n x sta (nI 3) hn hw) X hL hl vb_X2_weakly q1218 (hsq.recv hKV) rfl rfl (Nat.le_of_ble_eq_true rfl) dX1_mixTold_86 ⟨Nat.le_of_ble_eq_true rfl, Nat.le_of_ble_eq_true rfl⟩ (by omega) (by omega) hsq (fun r H locs hL hp => ?_)
  obtain ⟨rfl, hE1⟩ := hp
  have ob := ob.ext hE1
  have hst := hst.ext hE1
  have hC := hC.trans hE1.chg
  have hsq := hst.q
  obtain ⟨sb, sd, PG, PS, obs, hbg, hsd, hof, hinj⟩ := id hsq
  refine W.stk (w := (nI (cnt (fun k => cB ro k && !anyB (wbB ro (nI 3) k) n) n))) (congrArg nI (weak_len ro (nI 3) n)) ?_
  refine lv_i2l hx hb dX1_mixTold_89 rfl ?_
  refine Ct.callV (ct_X1_mix l g o sta dq sl bf h6 ((nI (cnt (fun k => cB ro k && !anyB (wbB ro (nI 3) k) n) n)).toInt64) loo) X hL hl vb_X1_mix q1148 (ob.recv hKV rfl) rfl rfl (Nat.le_of_ble_eq_true rfl) dX1_mixTold_90 ⟨Nat.le_of_ble_eq_true rfl, Nat.le_of_ble_eq_true rfl⟩ (by omega) (by omega) ob (fun r H locs hL hp => ?_)
  obtain ⟨rfl, ob, hon⟩ := hp
  obtain ⟨h7, eh7⟩ : ∃ z, z = 31 * h6 + ((nI (cnt (fun k => cB ro k && !anyB (wbB ro (nI 3) k) n) n)).toInt64) := ⟨_, rfl⟩
  rw [← eh7] at ob
  have hst := hst.keep (hon.chg rfl)
  have hC := hC.trans (hon.chg rfl)
  have hsq := hst.q
  obtain ⟨sb, sd, PG, PS, obs, hbg, hsd, hof, hinj⟩ := id hsq
  refine lv_iconst (v := nI 1) hx hb dX1_mixTold_93 (by decide) ?_
  refine lv_istore_n (lv' := [(1, .int _), (0, .ref _)]) hx hb dX1_mixTold_94 rfl hl (by decide) rfl (fun ls hl => ?_)
  refine lv_iload_n hx hb dX1_mixTold_95 rfl (lv_at hl 0 rfl) ?_
  refine lv_iconst (v := nI 3) hx hb dX1_mixTold_96 (by decide) ?_
  refine n_icmp_gt (tgt := 119) X dX1_mixTold_97 (by decide) (by omega) (by omega) (fun c_97 => ?_) (fun c_97 => ?_)
  ·
    exact absurd c_97 (by decide)
  ·
    refine lv_aload_n hx hb dX1_mixTold_100 rfl (lv_at hl 1 rfl) ?_
    refine lv_aload_n hx hb dX1_mixTold_101 rfl (lv_at hl 1 rfl) ?_
    refine r_get (C := RX1) (T := TX1) (N := 5) (ci := 1) X in_X1 rfl 0 (Nat.le_of_ble_eq_true rfl) q280 (fun _ h => h) ob rfl dX1_mixTold_102 ?_
    refine lv_iload_n hx hb dX1_mixTold_105 rfl (lv_at hl 0 rfl) ?_
    refine Ct.callV (ct_X2_coveredBy l g ro n x sta 1 hn hw (by decide)) X hL hl vb_X2_coveredBy q1236 (hsq.recv hKV) rfl rfl (Nat.le_of_ble_eq_true rfl) dX1_mixTold_106 ⟨Nat.le_of_ble_eq_true rfl, Nat.le_of_ble_eq_true rfl⟩ (by omega) (by omega) hsq (fun r H locs hL hp => ?_)
    obtain ⟨rfl, hE1⟩ := hp
    have ob := ob.ext hE1
    have hst := hst.ext hE1
    have hC := hC.trans hE1.chg
    have hsq := hst.q
    obtain ⟨sb, sd, PG, PS, obs, hbg, hsd, hof, hinj⟩ := id hsq
    refine W.stk (w := (nI ((grS ro n (tellB ro n (hasB (matI (mw ro)))) (min (cnt (tellB ro n (hasB (matI (mw ro)))) n) 1)).2.2))) (by rw [Nat.min_comm]; rfl) ?_
    refine lv_i2l hx hb dX1_mixTold_109 rfl ?_
    refine Ct.callV (ct_X1_mix l g o sta dq sl bf h7 ((nI ((grS ro n (tellB ro n (hasB (matI (mw ro)))) (min (cnt (tellB ro n (hasB (matI (mw ro)))) n) 1)).2.2)).toInt64) loo) X hL hl vb_X1_mix q1148 (ob.recv hKV rfl) rfl rfl (Nat.le_of_ble_eq_true rfl) dX1_mixTold_110 ⟨Nat.le_of_ble_eq_true rfl, Nat.le_of_ble_eq_true rfl⟩ (by omega) (by omega) ob (fun r H locs hL hp => ?_)
    obtain ⟨rfl, ob, hon⟩ := hp
    obtain ⟨h8, eh8⟩ : ∃ z, z = 31 * h7 + ((nI ((grS ro n (tellB ro n (hasB (matI (mw ro)))) (min (cnt (tellB ro n (hasB (matI (mw ro)))) n) 1)).2.2)).toInt64) := ⟨_, rfl⟩
    rw [← eh8] at ob
    have hst := hst.keep (hon.chg rfl)
    have hC := hC.trans (hon.chg rfl)
    have hsq := hst.q
    obtain ⟨sb, sd, PG, PS, obs, hbg, hsd, hof, hinj⟩ := id hsq
    refine lv_iinc (v := nI (2)) (lv' := [(1, .int _), (0, .ref _)]) hx hb dX1_mixTold_113 hl (k := 0) rfl (nI_iinc _ 1 rfl) (by decide) rfl (fun ls hl => ?_)
    refine lv_goto (tgt := 95) hx hb dX1_mixTold_116 (by decide) ?_
    refine lv_iload_n hx hb dX1_mixTold_95 rfl (lv_at hl 0 rfl) ?_
    refine lv_iconst (v := nI 3) hx hb dX1_mixTold_96 (by decide) ?_
    refine n_icmp_gt (tgt := 119) X dX1_mixTold_97 (by decide) (by omega) (by omega) (fun c_97 => ?_) (fun c_97 => ?_)
    ·
      exact absurd c_97 (by decide)
    ·
      refine lv_aload_n hx hb dX1_mixTold_100 rfl (lv_at hl 1 rfl) ?_
      refine lv_aload_n hx hb dX1_mixTold_101 rfl (lv_at hl 1 rfl) ?_
      refine r_get (C := RX1) (T := TX1) (N := 5) (ci := 1) X in_X1 rfl 0 (Nat.le_of_ble_eq_true rfl) q280 (fun _ h => h) ob rfl dX1_mixTold_102 ?_
      refine lv_iload_n hx hb dX1_mixTold_105 rfl (lv_at hl 0 rfl) ?_
      refine Ct.callV (ct_X2_coveredBy l g ro n x sta 2 hn hw (by decide)) X hL hl vb_X2_coveredBy q1236 (hsq.recv hKV) rfl rfl (Nat.le_of_ble_eq_true rfl) dX1_mixTold_106 ⟨Nat.le_of_ble_eq_true rfl, Nat.le_of_ble_eq_true rfl⟩ (by omega) (by omega) hsq (fun r H locs hL hp => ?_)
      obtain ⟨rfl, hE1⟩ := hp
      have ob := ob.ext hE1
      have hst := hst.ext hE1
      have hC := hC.trans hE1.chg
      have hsq := hst.q
      obtain ⟨sb, sd, PG, PS, obs, hbg, hsd, hof, hinj⟩ := id hsq
      refine W.stk (w := (nI ((grS ro n (tellB ro n (hasB (matI (mw ro)))) (min (cnt (tellB ro n (hasB (matI (mw ro)))) n) 2)).2.2))) (by rw [Nat.min_comm]; rfl) ?_
      refine lv_i2l hx hb dX1_mixTold_109 rfl ?_
      refine Ct.callV (ct_X1_mix l g o sta dq sl bf h8 ((nI ((grS ro n (tellB ro n (hasB (matI (mw ro)))) (min (cnt (tellB ro n (hasB (matI (mw ro)))) n) 2)).2.2)).toInt64) loo) X hL hl vb_X1_mix q1148 (ob.recv hKV rfl) rfl rfl (Nat.le_of_ble_eq_true rfl) dX1_mixTold_110 ⟨Nat.le_of_ble_eq_true rfl, Nat.le_of_ble_eq_true rfl⟩ (by omega) (by omega) ob (fun r H locs hL hp => ?_)
      obtain ⟨rfl, ob, hon⟩ := hp
      obtain ⟨h9, eh9⟩ : ∃ z, z = 31 * h8 + ((nI ((grS ro n (tellB ro n (hasB (matI (mw ro)))) (min (cnt (tellB ro n (hasB (matI (mw ro)))) n) 2)).2.2)).toInt64) := ⟨_, rfl⟩
      rw [← eh9] at ob
      have hst := hst.keep (hon.chg rfl)
      have hC := hC.trans (hon.chg rfl)
      have hsq := hst.q
      obtain ⟨sb, sd, PG, PS, obs, hbg, hsd, hof, hinj⟩ := id hsq
      refine lv_iinc (v := nI (3)) (lv' := [(1, .int _), (0, .ref _)]) hx hb dX1_mixTold_113 hl (k := 0) rfl (nI_iinc _ 1 rfl) (by decide) rfl (fun ls hl => ?_)
      refine lv_goto (tgt := 95) hx hb dX1_mixTold_116 (by decide) ?_
      refine lv_iload_n hx hb dX1_mixTold_95 rfl (lv_at hl 0 rfl) ?_
      refine lv_iconst (v := nI 3) hx hb dX1_mixTold_96 (by decide) ?_
      refine n_icmp_gt (tgt := 119) X dX1_mixTold_97 (by decide) (by omega) (by omega) (fun c_97 => ?_) (fun c_97 => ?_)
      ·
        exact absurd c_97 (by decide)
      ·
        refine lv_aload_n hx hb dX1_mixTold_100 rfl (lv_at hl 1 rfl) ?_
        refine lv_aload_n hx hb dX1_mixTold_101 rfl (lv_at hl 1 rfl) ?_
        refine r_get (C := RX1) (T := TX1) (N := 5) (ci := 1) X in_X1 rfl 0 (Nat.le_of_ble_eq_true rfl) q280 (fun _ h => h) ob rfl dX1_mixTold_102 ?_
        refine lv_iload_n hx hb dX1_mixTold_105 rfl (lv_at hl 0 rfl) ?_
        refine Ct.callV (ct_X2_coveredBy l g ro n x sta 3 hn hw (by decide)) X hL hl vb_X2_coveredBy q1236 (hsq.recv hKV) rfl rfl (Nat.le_of_ble_eq_true rfl) dX1_mixTold_106 ⟨Nat.le_of_ble_eq_true rfl, Nat.le_of_ble_eq_true rfl⟩ (by omega) (by omega) hsq (fun r H locs hL hp => ?_)
        obtain ⟨rfl, hE1⟩ := hp
        have ob := ob.ext hE1
        have hst := hst.ext hE1
        have hC := hC.trans hE1.chg
        have hsq := hst.q
        obtain ⟨sb, sd, PG, PS, obs, hbg, hsd, hof, hinj⟩ := id hsq
        refine W.stk (w := (nI ((grS ro n (tellB ro n (hasB (matI (mw ro)))) (min (cnt (tellB ro n (hasB (matI (mw ro)))) n) 3)).2.2))) (by rw [Nat.min_comm]; rfl) ?_
        refine lv_i2l hx hb dX1_mixTold_109 rfl ?_
        refine Ct.callV (ct_X1_mix l g o sta dq sl bf h9 ((nI ((grS ro n (tellB ro n (hasB (matI (mw ro)))) (min (cnt (tellB ro n (hasB (matI (mw ro)))) n) 3)).2.2)).toInt64) loo) X hL hl vb_X1_mix q1148 (ob.recv hKV rfl) rfl rfl (Nat.le_of_ble_eq_true rfl) dX1_mixTold_110 ⟨Nat.le_of_ble_eq_true rfl, Nat.le_of_ble_eq_true rfl⟩ (by omega) (by omega) ob (fun r H locs hL hp => ?_)
        obtain ⟨rfl, ob, hon⟩ := hp
        obtain ⟨h10, eh10⟩ : ∃ z, z = 31 * h9 + ((nI ((grS ro n (tellB ro n (hasB (matI (mw ro)))) (min (cnt (tellB ro n (hasB (matI (mw ro)))) n) 3)).2.2)).toInt64) := ⟨_, rfl⟩
        rw [← eh10] at ob
        have hst := hst.keep (hon.chg rfl)
        have hC := hC.trans (hon.chg rfl)
        have hsq := hst.q
        obtain ⟨sb, sd, PG, PS, obs, hbg, hsd, hof, hinj⟩ := id hsq
        refine lv_iinc (v := nI (4)) (lv' := [(1, .int _), (0, .ref _)]) hx hb dX1_mixTold_113 hl (k := 0) rfl (nI_iinc _ 1 rfl) (by decide) rfl (fun ls hl => ?_)
        refine lv_goto (tgt := 95) hx hb dX1_mixTold_116 (by decide) ?_
        refine lv_iload_n hx hb dX1_mixTold_95 rfl (lv_at hl 0 rfl) ?_
        refine lv_iconst (v := nI 3) hx hb dX1_mixTold_96 (by decide) ?_
        refine n_icmp_gt (tgt := 119) X dX1_mixTold_97 (by decide) (by omega) (by omega) (fun c_97 => ?_) (fun c_97 => ?_)
        ·
          refine lv_aload_n hx hb dX1_mixTold_119 rfl (lv_at hl 1 rfl) ?_
          refine lv_aload_n hx hb dX1_mixTold_120 rfl (lv_at hl 1 rfl) ?_
          refine r_get (C := RX1) (T := TX1) (N := 5) (ci := 1) X in_X1 rfl 0 (Nat.le_of_ble_eq_true rfl) q280 (fun _ h => h) ob rfl dX1_mixTold_121 ?_
          refine Ct.callV (ct_X2_bestByTwo l g ro n x sta hn hw) X hL hl vb_X2_bestByTwo q1090 (hsq.recv hKV) rfl rfl (Nat.le_of_ble_eq_true rfl) dX1_mixTold_124 ⟨Nat.le_of_ble_eq_true rfl, Nat.le_of_ble_eq_true rfl⟩ (by omega) (by omega) hsq (fun r H locs hL hp => ?_)
          obtain ⟨rfl, hE1⟩ := hp
          have ob := ob.ext hE1
          have hst := hst.ext hE1
          have hC := hC.trans hE1.chg
          have hsq := hst.q
          obtain ⟨sb, sd, PG, PS, obs, hbg, hsd, hof, hinj⟩ := id hsq
          refine W.stk (w := (nI (twA ro n (tellB ro n (hasB (matI (mw ro)))) n))) rfl ?_
          refine lv_i2l hx hb dX1_mixTold_127 rfl ?_
          refine Ct.callV (ct_X1_mix l g o sta dq sl bf h10 ((nI (twA ro n (tellB ro n (hasB (matI (mw ro)))) n)).toInt64) loo) X hL hl vb_X1_mix q1148 (ob.recv hKV rfl) rfl rfl (Nat.le_of_ble_eq_true rfl) dX1_mixTold_128 ⟨Nat.le_of_ble_eq_true rfl, Nat.le_of_ble_eq_true rfl⟩ (by omega) (by omega) ob (fun r H locs hL hp => ?_)
          obtain ⟨rfl, ob, hon⟩ := hp
          obtain ⟨h11, eh11⟩ : ∃ z, z = 31 * h10 + ((nI (twA ro n (tellB ro n (hasB (matI (mw ro)))) n)).toInt64) := ⟨_, rfl⟩
          rw [← eh11] at ob
          have hst := hst.keep (hon.chg rfl)
          have hC := hC.trans (hon.chg rfl)
          have hsq := hst.q
          obtain ⟨sb, sd, PG, PS, obs, hbg, hsd, hof, hinj⟩ := id hsq
          have hfin : h11 = mxs hh (te3L ro n ++ someA ro n) := by rw [eh11, eh10, eh9, eh8, eh7, eh6, eh5, eh4, eh3, eh2, eh1]; rfl
          exact r_vret X hL dX1_mixTold_131 (by omega) (by omega) ⟨rfl, by rw [← hfin]; exact ob, hst, hC⟩
        ·
          exact absurd c_97 (by decide)
theorem vb_X1_mixTold : VB yX1_mixTold cX1_mixTold 2 none 0 := ⟨q1205, qs33, q99, q1206, ⟨by decide, by decide, by decide +kernel⟩⟩

set_option maxRecDepth 100000 in
set_option maxHeartbeats 4000000 in
theorem ct_X1_mixOrders (l : Launch) (g : GT) (ro : Nat → Int32) (n : Nat) (x : Nat → Nat) (o sta dq sl bf : Nat) (hh : Int64) (loo : gLo g ≤ o) (hn : n ≤ 40) (hR : RO ro n) : Ct l g yX1_mixOrders cX1_mixOrders 4 none 15 58 923 [.ref o] (fun H => Ob g o 1 [.ref sta, .ref dq, .ref sl, .ref bf, .long hh] H ∧ StW g (fun q => q = o) ro n x sta H) (fun r H H1 => r = none ∧ Ob g o 1 [.ref sta, .ref dq, .ref sl, .ref bf, .long (mxs hh (tkL ro n (min (cnt (tellB ro n (hasB (matI (mw ro)))) n) 40) ++ scL ro n (min 3 (cnt (cB ro) n))))] H1 ∧ StW g (fun q => q = o) ro n x sta H1 ∧ Chg (fun q => q = o) H H1) := by
  refine Ct.of (by decide) (Nat.le_of_ble_eq_true rfl) ?_
  intro p e s m args below meth c X hP ls hl
  have hx := X.1
  have hb := X.2.1
  have hKV := X.2.2.2.2.2.2.2.1.1
  have hL : ∀ q ∈ ([] : List Loc), gLo g ≤ q.base := fun _ h => by cases h
  obtain ⟨ob, hst⟩ := hP
  have hw := hR.w
  have hsq := hst.q
  obtain ⟨sb, sd, PG, PS, obs, hbg, hsd, hof, hinj⟩ := id hsq
  have hl : lv_has ls 4 [(0, .ref o)] := hl
  have hC : Chg (fun q => q = o) s.heap s.heap := Chg.rfl'
  have hgE := hKV.gE
  refine lv_aload_n hx hb dX1_mixOrders_0 rfl (lv_at hl 0 rfl) ?_
  refine r_get (C := RX1) (T := TX1) (N := 5) (ci := 1) X in_X1 rfl 0 (Nat.le_of_ble_eq_true rfl) q280 (fun _ h => h) ob rfl dX1_mixOrders_1 ?_
  have hol := ob.lt
  refine Ct.callV (ct_X2_takenInOrder l g ro n x sta hn hw) X hL hl vb_X2_takenInOrder q1253 (hsq.recv hKV) rfl rfl (Nat.le_of_ble_eq_true rfl) dX1_mixOrders_4 ⟨Nat.le_of_ble_eq_true rfl, Nat.le_of_ble_eq_true rfl⟩ (by omega) (by omega) hsq (fun r H locs hL hp => ?_)
  obtain ⟨bt, hbt, rfl, hE1⟩ := hp
  have hbt := hbt.to (Q := fun q => q ≠ o) (fun _ _ => rfl) (fun q hq e => by omega)
  have ob := ob.ext hE1
  have hst := hst.ext hE1
  have hC := hC.trans hE1.chg
  have hsq := hst.q
  obtain ⟨sb, sd, PG, PS, obs, hbg, hsd, hof, hinj⟩ := id hsq
  refine lv_astore_n (lv' := [(1, .ref _), (0, .ref _)]) hx hb dX1_mixOrders_7 rfl hl (by decide) rfl (fun ls hl => ?_)
  refine lv_iconst (v := nI 0) hx hb dX1_mixOrders_8 (by decide) ?_
  refine lv_istore_n (lv' := [(2, .int _), (1, .ref _), (0, .ref _)]) hx hb dX1_mixOrders_9 rfl hl (by decide) rfl (fun ls hl => ?_)
  have L10 : ∀ (fuel : Nat) (k : Nat) (hv : Int64), (min 40 (cnt (toT ro n) n)) - k < fuel → (k ≤ (min 40 (cnt (toT ro n) n))) → (hv = mxs hh (tkL ro n k)) → ∀ (H : Heap), Ob g o 1 [.ref sta, .ref dq, .ref sl, .ref bf, .long hv] H → StW g (fun q => q = o) ro n x sta H → BagR g (fun q => q ≠ o) (XL x (tkR ro n (min 40 (cnt (toT ro n) n)))) (tkR ro n (min 40 (cnt (toT ro n) n))).length bt H → Chg (fun q => q = o) s.heap H → ∀ (locs : List Loc), (∀ q ∈ locs, gLo g ≤ q.base) → ∀ (ls : Array Slot), lv_has ls 4 [(0, .ref o), (1, .ref bt), (2, .int (nI k))] → W p l e (rmL 15 58 923) s m args below meth c H locs 40 640 (MQ below (Qcg (fun r H H1 => r = none ∧ Ob g o 1 [.ref sta, .ref dq, .ref sl, .ref bf, .long (mxs hh (tkL ro n (min (cnt (tellB ro n (hasB (matI (mw ro)))) n) 40) ++ scL ro n (min 3 (cnt (cB ro) n))))] H1 ∧ StW g (fun q => q = o) ro n x sta H1 ∧ Chg (fun q => q = o) H H1)) args s 58 923 (fre g)) (F0 m 10 ls []) := by
    intro fuel
    induction fuel with
    | zero => intro k hv hfu; exact absurd hfu (Nat.not_lt_zero _)
    | succ fuel ih10 =>
      intro k hv hfu hk hhv H ob hst hbt hC locs hL ls hl
      have hsq := hst.q
      obtain ⟨sb, sd, PG, PS, obs, hbg, hsd, hof, hinj⟩ := id hsq
      have htl := tkR_len ro n (min 40 (cnt (toT ro n) n))
      refine lv_iload_n hx hb dX1_mixOrders_10 rfl (lv_at hl 2 rfl) ?_
      refine lv_aload_n hx hb dX1_mixOrders_11 rfl (lv_at hl 1 rfl) ?_
      refine Cp.callV (v := .int (nI _)) (ct_X3_size l g _ _ _ bt ) X hL hl vb_X3_size q993 (hbt.recv hKV) rfl rfl (Nat.le_of_ble_eq_true rfl) dX1_mixOrders_12 ⟨Nat.le_of_ble_eq_true rfl, Nat.le_of_ble_eq_true rfl⟩ (by omega) (by omega) hbt (fun locs hL => ?_)
      refine n_icmp_ge (tgt := 44) X dX1_mixOrders_15 (by decide) (by omega) (by omega) (fun c_15 => ?_) (fun c_15 => ?_)
      ·
        refine lv_aload_n hx hb dX1_mixOrders_44 rfl (lv_at hl 0 rfl) ?_
        refine r_get (C := RX1) (T := TX1) (N := 5) (ci := 1) X in_X1 rfl 0 (Nat.le_of_ble_eq_true rfl) q280 (fun _ h => h) ob rfl dX1_mixOrders_45 ?_
        have hol := ob.lt
        have hkt : k = (min 40 (cnt (toT ro n) n)) := by omega
        obtain ⟨h0, eh0⟩ : ∃ z, z = hv := ⟨_, rfl⟩
        rw [← eh0] at ob
        have hfst : h0 = mxs hh (tkL ro n (min 40 (cnt (toT ro n) n))) := by rw [eh0, hhv, hkt]
        refine Ct.callV (ct_X2_scored l g ro n x sta hn hw) X hL hl vb_X2_scored q1260 (hsq.recv hKV) rfl rfl (Nat.le_of_ble_eq_true rfl) dX1_mixOrders_48 ⟨Nat.le_of_ble_eq_true rfl, Nat.le_of_ble_eq_true rfl⟩ (by omega) (by omega) hsq (fun r H locs hL hp => ?_)
        obtain ⟨bs, hbs, rfl, hE1⟩ := hp
        have hbs := hbs.to (Q := fun q => q ≠ o) (fun _ _ => rfl) (fun q hq e => by omega)
        have ob := ob.ext hE1
        have hst := hst.ext hE1
        have hC := hC.trans hE1.chg
        have hsq := hst.q
        obtain ⟨sb, sd, PG, PS, obs, hbg, hsd, hof, hinj⟩ := id hsq
        refine lv_astore_n (lv' := [(2, .ref _), (0, .ref _), (1, .ref _)]) hx hb dX1_mixOrders_51 rfl hl (by decide) rfl (fun ls hl => ?_)
        refine lv_iconst (v := nI 0) hx hb dX1_mixOrders_52 (by decide) ?_
        refine lv_istore_n (lv' := [(3, .int _), (2, .ref _), (0, .ref _), (1, .ref _)]) hx hb dX1_mixOrders_53 rfl hl (by decide) rfl (fun ls hl => ?_)
        have L54 : ∀ (fuel : Nat) (k : Nat) (hv : Int64), min 3 (scrL ro n).length - k < fuel → (k ≤ min 3 (scrL ro n).length) → (hv = mxs h0 (scL ro n k)) → ∀ (H : Heap), Ob g o 1 [.ref sta, .ref dq, .ref sl, .ref bf, .long hv] H → StW g (fun q => q = o) ro n x sta H → BagR g (fun q => q ≠ o) (XL x (scrL ro n)) (scrL ro n).length bs H → Chg (fun q => q = o) s.heap H → ∀ (locs : List Loc), (∀ q ∈ locs, gLo g ≤ q.base) → ∀ (ls : Array Slot), lv_has ls 4 [(0, .ref o), (2, .ref bs), (3, .int (nI k))] → W p l e (rmL 15 58 923) s m args below meth c H locs 58 923 (MQ below (Qcg (fun r H H1 => r = none ∧ Ob g o 1 [.ref sta, .ref dq, .ref sl, .ref bf, .long (mxs hh (tkL ro n (min (cnt (tellB ro n (hasB (matI (mw ro)))) n) 40) ++ scL ro n (min 3 (cnt (cB ro) n))))] H1 ∧ StW g (fun q => q = o) ro n x sta H1 ∧ Chg (fun q => q = o) H H1)) args s 58 923 (fre g)) (F0 m 54 ls []) := by
          intro fuel
          induction fuel with
          | zero => intro k hv hfu; exact absurd hfu (Nat.not_lt_zero _)
          | succ fuel ih54 =>
            intro k hv hfu hk hhv H ob hst hbs hC locs hL ls hl
            have hsq := hst.q
            obtain ⟨sb, sd, PG, PS, obs, hbg, hsd, hof, hinj⟩ := id hsq
            have hsl2 := scr_le (r := ro) hn
            refine lv_iload_n hx hb dX1_mixOrders_54 rfl (lv_at hl 2 rfl) ?_
            refine lv_iconst (v := nI 3) hx hb dX1_mixOrders_55 (by decide) ?_
            refine lv_aload_n hx hb dX1_mixOrders_56 rfl (lv_at hl 1 rfl) ?_
            refine Cp.callV (v := .int (nI _)) (ct_X3_size l g _ _ _ bs ) X hL hl vb_X3_size q993 (hbs.recv hKV) rfl rfl (Nat.le_of_ble_eq_true rfl) dX1_mixOrders_57 ⟨Nat.le_of_ble_eq_true rfl, Nat.le_of_ble_eq_true rfl⟩ (by omega) (by omega) hbs (fun locs hL => ?_)
            refine va_mmin hx hb (X.2.2.1.trans hl.1.symm) X.2.2.2.1 (X.2.2.2.2.1 _ q1268) (X.2.2.2.2.1 _ q415) (X.2.2.2.2.1 _ q120) (X.2.2.2.2.1 _ q416) (Nat.le_of_ble_eq_true rfl) (Nat.le_of_ble_eq_true rfl) (by show 58 ≤ 58; omega) (by show 923 ≤ 923; omega) dX1_mixOrders_60 ?_
            refine W.stk (w := mnI (nI 3) (nI _)) rfl ?_
            refine W.stk (w := (nI (min 3 (scrL ro n).length))) (mnI_n (by omega) (by have := scr_le (r := ro) hn; omega)) ?_
            refine n_icmp_ge (tgt := 92) X dX1_mixOrders_63 (by decide) (by omega) (by omega) (fun c_63 => ?_) (fun c_63 => ?_)
            ·
              have hkm : k = min 3 (scrL ro n).length := by omega
              have hfin : hv = mxs hh (tkL ro n (min (cnt (tellB ro n (hasB (matI (mw ro)))) n) 40) ++ scL ro n (min 3 (cnt (cB ro) n))) := by rw [mxs_app, Nat.min_comm (cnt (tellB ro n (hasB (matI (mw ro)))) n) 40, show mxs hh (tkL ro n (min 40 (cnt (tellB ro n (hasB (matI (mw ro)))) n))) = h0 from hfst.symm, ← scr_len, ← hkm]; exact hhv
              exact r_vret X hL dX1_mixOrders_92 (by omega) (by omega) ⟨rfl, by rw [← hfin]; exact ob, hst, hC⟩
            ·
              refine lv_aload_n hx hb dX1_mixOrders_66 rfl (lv_at hl 0 rfl) ?_
              refine lv_aload_n hx hb dX1_mixOrders_67 rfl (lv_at hl 0 rfl) ?_
              refine r_get (C := RX1) (T := TX1) (N := 5) (ci := 1) X in_X1 rfl 0 (Nat.le_of_ble_eq_true rfl) q280 (fun _ h => h) ob rfl dX1_mixOrders_68 ?_
              refine lv_aload_n hx hb dX1_mixOrders_71 rfl (lv_at hl 1 rfl) ?_
              refine lv_iload_n hx hb dX1_mixOrders_72 rfl (lv_at hl 2 rfl) ?_
              have hkl : k < (scrL ro n).length := by omega
              have hm := getD_mem hkl
              have hkn : (scrL ro n).getD k 0 < n := List.mem_range.mp (rng_mem (scr_mem.mp hm).1)
              obtain ⟨fsk, obk⟩ := (hof _ (rng_mem hkn)).ob
              refine Cp.callV (v := .ref (x ((scrL ro n).getD k 0))) (ct_X3_get l g _ (XL x (scrL ro n)) ((scrL ro n).length) bs k hkl) X hL hl vb_X3_get q1257 (hbs.recv hKV) rfl rfl (Nat.le_of_ble_eq_true rfl) dX1_mixOrders_73 ⟨Nat.le_of_ble_eq_true rfl, Nat.le_of_ble_eq_true rfl⟩ (by omega) (by omega) hbs (fun locs hL => ?_)
              refine r_cast (ci := 5) X rfl obk q1258 dX1_mixOrders_76 ?_
              refine Cp.callV (v := .int (nI ((scrL ro n).getD k 0))) (ct_X2_numberOf l g ro n x sta ((scrL ro n).getD k 0) hn hkn) X hL hl vb_X2_numberOf q1259 (hsq.recv hKV) rfl rfl (Nat.le_of_ble_eq_true rfl) dX1_mixOrders_79 ⟨Nat.le_of_ble_eq_true rfl, Nat.le_of_ble_eq_true rfl⟩ (by omega) (by omega) hsq (fun locs hL => ?_)
              refine lv_i2l hx hb dX1_mixOrders_82 rfl ?_
              refine Ct.callV (ct_X1_mix l g o sta dq sl bf hv ((nI ((scrL ro n).getD k 0)).toInt64) loo) X hL hl vb_X1_mix q1148 (ob.recv hKV rfl) rfl rfl (Nat.le_of_ble_eq_true rfl) dX1_mixOrders_83 ⟨Nat.le_of_ble_eq_true rfl, Nat.le_of_ble_eq_true rfl⟩ (by omega) (by omega) ob (fun r H locs hL hp => ?_)
              obtain ⟨rfl, ob, hon⟩ := hp
              obtain ⟨h1, eh1⟩ : ∃ z, z = 31 * hv + ((nI ((scrL ro n).getD k 0)).toInt64) := ⟨_, rfl⟩
              rw [← eh1] at ob
              have hst := hst.keep (hon.chg rfl)
              have hbs := hbs.keep (Q := fun q => q = o) (hon.chg rfl) (fun q h1 h2 => h1 h2) (by omega)
              have hC := hC.trans (hon.chg rfl)
              have hsq := hst.q
              obtain ⟨sb, sd, PG, PS, obs, hbg, hsd, hof, hinj⟩ := id hsq
              refine lv_iinc (v := nI (k + 1)) (lv' := [(3, .int _), (0, .ref _), (2, .ref _)]) hx hb dX1_mixOrders_86 hl (k := 2) rfl (nI_iinc _ 1 rfl) (by decide) rfl (fun ls hl => ?_)
              refine lv_goto (tgt := 54) hx hb dX1_mixOrders_89 (by decide) ?_
              exact W.widen (by omega) (by omega) (ih54 (k + 1) h1 (by omega) (by omega) (by rw [scL, mxs_app, ← hhv, eh1, show fstI (fun z => cB ro z && decide (nI (rnkN ro n z) = nI k)) n = nI ((scrL ro n).getD k 0) from by rw [getD_at hkl]; exact scr_fst hn hkl]; rfl) _ ob hst hbs hC _ hL ls (lv_sub hl [1, 2, 0] rfl))
        exact W.widen (by omega) (by omega) (L54 4 0 h0 (by omega) (by omega) rfl _ ob hst hbs hC _ hL ls (lv_sub hl [2, 1, 0] rfl))
      ·
        refine lv_aload_n hx hb dX1_mixOrders_18 rfl (lv_at hl 0 rfl) ?_
        refine lv_aload_n hx hb dX1_mixOrders_19 rfl (lv_at hl 0 rfl) ?_
        refine r_get (C := RX1) (T := TX1) (N := 5) (ci := 1) X in_X1 rfl 0 (Nat.le_of_ble_eq_true rfl) q280 (fun _ h => h) ob rfl dX1_mixOrders_20 ?_
        refine lv_aload_n hx hb dX1_mixOrders_23 rfl (lv_at hl 1 rfl) ?_
        refine lv_iload_n hx hb dX1_mixOrders_24 rfl (lv_at hl 2 rfl) ?_
        have hkl : k < (tkR ro n (min 40 (cnt (toT ro n) n))).length := by omega
        have hm := getD_mem hkl
        have hkn : (tkR ro n (min 40 (cnt (toT ro n) n))).getD k 0 < n := List.mem_range.mp (tkR_in hn (Nat.min_le_right _ _) hm)
        obtain ⟨fsk, obk⟩ := (hof _ (rng_mem hkn)).ob
        refine Cp.callV (v := .ref (x ((tkR ro n (min 40 (cnt (toT ro n) n))).getD k 0))) (ct_X3_get l g _ (XL x (tkR ro n (min 40 (cnt (toT ro n) n)))) ((tkR ro n (min 40 (cnt (toT ro n) n))).length) bt k hkl) X hL hl vb_X3_get q1257 (hbt.recv hKV) rfl rfl (Nat.le_of_ble_eq_true rfl) dX1_mixOrders_25 ⟨Nat.le_of_ble_eq_true rfl, Nat.le_of_ble_eq_true rfl⟩ (by omega) (by omega) hbt (fun locs hL => ?_)
        refine r_cast (ci := 5) X rfl obk q1258 dX1_mixOrders_28 ?_
        refine Cp.callV (v := .int (nI ((tkR ro n (min 40 (cnt (toT ro n) n))).getD k 0))) (ct_X2_numberOf l g ro n x sta ((tkR ro n (min 40 (cnt (toT ro n) n))).getD k 0) hn hkn) X hL hl vb_X2_numberOf q1259 (hsq.recv hKV) rfl rfl (Nat.le_of_ble_eq_true rfl) dX1_mixOrders_31 ⟨Nat.le_of_ble_eq_true rfl, Nat.le_of_ble_eq_true rfl⟩ (by omega) (by omega) hsq (fun locs hL => ?_)
        refine lv_i2l hx hb dX1_mixOrders_34 rfl ?_
        refine Ct.callV (ct_X1_mix l g o sta dq sl bf hv ((nI ((tkR ro n (min 40 (cnt (toT ro n) n))).getD k 0)).toInt64) loo) X hL hl vb_X1_mix q1148 (ob.recv hKV rfl) rfl rfl (Nat.le_of_ble_eq_true rfl) dX1_mixOrders_35 ⟨Nat.le_of_ble_eq_true rfl, Nat.le_of_ble_eq_true rfl⟩ (by omega) (by omega) ob (fun r H locs hL hp => ?_)
        obtain ⟨rfl, ob, hon⟩ := hp
        obtain ⟨h1, eh1⟩ : ∃ z, z = 31 * hv + ((nI ((tkR ro n (min 40 (cnt (toT ro n) n))).getD k 0)).toInt64) := ⟨_, rfl⟩
        rw [← eh1] at ob
        have hst := hst.keep (hon.chg rfl)
        have hbt := hbt.keep (Q := fun q => q = o) (hon.chg rfl) (fun q h1 h2 => h1 h2) (by omega)
        have hC := hC.trans (hon.chg rfl)
        have hsq := hst.q
        obtain ⟨sb, sd, PG, PS, obs, hbg, hsd, hof, hinj⟩ := id hsq
        refine lv_iinc (v := nI (k + 1)) (lv' := [(2, .int _), (0, .ref _), (1, .ref _)]) hx hb dX1_mixOrders_38 hl (k := 2) rfl (nI_iinc _ 1 rfl) (by decide) rfl (fun ls hl => ?_)
        refine lv_goto (tgt := 10) hx hb dX1_mixOrders_41 (by decide) ?_
        exact W.widen (by omega) (by omega) (ih10 (k + 1) h1 (by omega) (by omega) (by rw [tkL, mxs_app, ← hhv, eh1, tkR_get ro (by omega)]; rfl) _ ob hst hbt hC _ hL ls (lv_sub hl [1, 2, 0] rfl))
  exact W.widen (by omega) (by omega) (L10 41 0 hh (by omega) (by omega) rfl _ ob hst hbt hC _ hL ls (lv_sub hl [2, 1, 0] rfl))
theorem vb_X1_mixOrders : VB yX1_mixOrders cX1_mixOrders 4 none 0 := ⟨q1251, qs39, q99, q1252, ⟨by decide, by decide, by decide +kernel⟩⟩

set_option maxRecDepth 100000 in
set_option maxHeartbeats 4000000 in
theorem ct_X1_mixReach (l : Launch) (g : GT) (ro : Nat → Int32) (n : Nat) (x : Nat → Nat) (o sta dq sl bf : Nat) (hh : Int64) (loo : gLo g ≤ o) (hn : n ≤ 40) (hR : RO ro n) : Ct l g yX1_mixReach cX1_mixReach 3 none 15 300 4600 [.ref o] (fun H => Ob g o 1 [.ref sta, .ref dq, .ref sl, .ref bf, .long hh] H ∧ StW g (fun q => q = o) ro n x sta H) (fun r H H1 => r = none ∧ Ob g o 1 [.ref sta, .ref dq, .ref sl, .ref bf, .long (mxs hh (rcA ro n 4))] H1 ∧ StW g (fun q => q = o) ro n x sta H1 ∧ Chg (fun q => q = o) H H1) := by
  refine Ct.of (by decide) (Nat.le_of_ble_eq_true rfl) ?_
  intro p e s m args below meth c X hP ls hl
  have hx := X.1
  have hb := X.2.1
  have hKV := X.2.2.2.2.2.2.2.1.1
  have hL : ∀ q ∈ ([] : List Loc), gLo g ≤ q.base := fun _ h => by cases h
  obtain ⟨ob, hst⟩ := hP
  have hw := hR.w
  have hsq := hst.q
  obtain ⟨sb, sd, PG, PS, obs, hbg, hsd, hof, hinj⟩ := id hsq
  have hl : lv_has ls 3 [(0, .ref o)] := hl
  have hC : Chg (fun q => q = o) s.heap s.heap := Chg.rfl'
  have hgE := hKV.gE
  refine lv_iconst (v := nI 0) hx hb dX1_mixReach_0 (by decide) ?_
  refine lv_istore_n (lv' := [(1, .int _), (0, .ref _)]) hx hb dX1_mixReach_1 rfl hl (by decide) rfl (fun ls hl => ?_)
  have L2 : ∀ (fuel : Nat) (a : Nat) (hv : Int64), 4 - a < fuel → (a ≤ 4) → (hv = mxs hh (rcA ro n a)) → ∀ (H : Heap), Ob g o 1 [.ref sta, .ref dq, .ref sl, .ref bf, .long hv] H → StW g (fun q => q = o) ro n x sta H → Chg (fun q => q = o) s.heap H → ∀ (locs : List Loc), (∀ q ∈ locs, gLo g ≤ q.base) → ∀ (ls : Array Slot), lv_has ls 3 [(0, .ref o), (1, .int (nI a))] → W p l e (rmL 15 300 4600) s m args below meth c H locs (54 * a) (846 * a) (MQ below (Qcg (fun r H H1 => r = none ∧ Ob g o 1 [.ref sta, .ref dq, .ref sl, .ref bf, .long (mxs hh (rcA ro n 4))] H1 ∧ StW g (fun q => q = o) ro n x sta H1 ∧ Chg (fun q => q = o) H H1)) args s 300 4600 (fre g)) (F0 m 2 ls []) := by
    intro fuel
    induction fuel with
    | zero => intro a hv hfu; exact absurd hfu (Nat.not_lt_zero _)
    | succ fuel ih2 =>
      intro a hv hfu ha hhv H ob hst hC locs hL ls hl
      have hsq := hst.q
      obtain ⟨sb, sd, PG, PS, obs, hbg, hsd, hof, hinj⟩ := id hsq
      refine lv_iload_n hx hb dX1_mixReach_2 rfl (lv_at hl 1 rfl) ?_
      refine lv_iconst (v := nI 4) hx hb dX1_mixReach_3 (by decide) ?_
      refine n_icmp_ge (tgt := 68) X dX1_mixReach_4 (by decide) (by omega) (by omega) (fun c_4 => ?_) (fun c_4 => ?_)
      ·
        have ha4 : a = 4 := by omega
        subst ha4
        exact r_vret X hL dX1_mixReach_68 (by omega) (by omega) ⟨rfl, by rw [← hhv]; exact ob, hst, hC⟩
      ·
        have hhv0 := hhv
        obtain ⟨hv0, ehv0⟩ : ∃ z, z = hv := ⟨_, rfl⟩
        rw [← ehv0] at hhv0
        refine lv_iload_n hx hb dX1_mixReach_7 rfl (lv_at hl 1 rfl) ?_
        refine lv_iconst (v := nI 1) hx hb dX1_mixReach_8 (by decide) ?_
        refine n_iadd X dX1_mixReach_9 ?_
        refine lv_istore_n (lv' := [(2, .int _), (0, .ref _), (1, .int _)]) hx hb dX1_mixReach_10 rfl hl (by decide) rfl (fun ls hl => ?_)
        have L11 : ∀ (fuel : Nat) (d : Nat) (hv : Int64), 4 - (a + 1 + d) < fuel → (a + 1 + d ≤ 4) → (hv = mxs hv0 (rcB ro n a d)) → ∀ (H : Heap), Ob g o 1 [.ref sta, .ref dq, .ref sl, .ref bf, .long hv] H → StW g (fun q => q = o) ro n x sta H → Chg (fun q => q = o) s.heap H → ∀ (locs : List Loc), (∀ q ∈ locs, gLo g ≤ q.base) → ∀ (ls : Array Slot), lv_has ls 3 [(0, .ref o), (1, .int (nI a)), (2, .int (nI (a + 1 + d)))] → W p l e (rmL 15 300 4600) s m args below meth c H locs (54 * a + 18 * d) (846 * a + 282 * d) (MQ below (Qcg (fun r H H1 => r = none ∧ Ob g o 1 [.ref sta, .ref dq, .ref sl, .ref bf, .long (mxs hh (rcA ro n 4))] H1 ∧ StW g (fun q => q = o) ro n x sta H1 ∧ Chg (fun q => q = o) H H1)) args s 300 4600 (fre g)) (F0 m 11 ls []) := by
          intro fuel
          induction fuel with
          | zero => intro d hv hfu; exact absurd hfu (Nat.not_lt_zero _)
          | succ fuel ih11 =>
            intro d hv hfu hd hhv H ob hst hC locs hL ls hl
            have hsq := hst.q
            obtain ⟨sb, sd, PG, PS, obs, hbg, hsd, hof, hinj⟩ := id hsq
            refine lv_iload_n hx hb dX1_mixReach_11 rfl (lv_at hl 2 rfl) ?_
            refine lv_iconst (v := nI 4) hx hb dX1_mixReach_12 (by decide) ?_
            refine n_icmp_ge (tgt := 62) X dX1_mixReach_13 (by decide) (by omega) (by omega) (fun c_13 => ?_) (fun c_13 => ?_)
            ·
              refine lv_iinc (v := nI (a + 1)) (lv' := [(1, .int _), (0, .ref _), (2, .int _)]) hx hb dX1_mixReach_62 hl (k := 1) rfl (nI_iinc _ 1 rfl) (by decide) rfl (fun ls hl => ?_)
              refine lv_goto (tgt := 2) hx hb dX1_mixReach_65 (by decide) ?_
              exact W.widen (by omega) (by omega) (ih2 (a + 1) hv (by omega) (by omega) (by rw [rcA, mxs_app, ← hhv0, hhv, show d = 3 - a by omega]) _ ob hst hC _ hL ls (lv_sub hl [1, 0] rfl))
            ·
              refine lv_aload_n hx hb dX1_mixReach_16 rfl (lv_at hl 0 rfl) ?_
              refine r_get (C := RX1) (T := TX1) (N := 5) (ci := 1) X in_X1 rfl 0 (Nat.le_of_ble_eq_true rfl) q280 (fun _ h => h) ob rfl dX1_mixReach_17 ?_
              refine lv_iload_n hx hb dX1_mixReach_20 rfl (lv_at hl 1 rfl) ?_
              refine lv_iload_n hx hb dX1_mixReach_21 rfl (lv_at hl 2 rfl) ?_
              refine Cp.callV (v := .int (bI (!decide (a = a + 1 + d) && (matB (mw ro) a && matB (mw ro) (a + 1 + d))))) (ct_X2_canReach l g ro n x sta a (a + 1 + d) hn hw (by omega) (by omega)) X hL hl vb_X2_canReach q1273 (hsq.recv hKV) rfl rfl (Nat.le_of_ble_eq_true rfl) dX1_mixReach_22 ⟨Nat.le_of_ble_eq_true rfl, Nat.le_of_ble_eq_true rfl⟩ (by omega) (by omega) hsq (fun locs hL => ?_)
              refine b_ifeq (tgt := 56) X dX1_mixReach_25 (by decide) (fun c_25 => ?_) (fun c_25 => ?_)
              ·
                have hcr : (matB (mw ro) a && matB (mw ro) (a + 1 + d)) = false := by rw [show decide (a = a + 1 + d) = false from decide_eq_false (by omega)] at c_25; exact c_25
                refine lv_iinc (v := nI (a + 1 + d + 1)) (lv' := [(2, .int _), (0, .ref _), (1, .int _)]) hx hb dX1_mixReach_56 hl (k := 2) rfl (nI_iinc _ 1 rfl) (by decide) rfl (fun ls hl => ?_)
                refine lv_goto (tgt := 11) hx hb dX1_mixReach_59 (by decide) ?_
                exact W.widen (by omega) (by omega) (ih11 (d + 1) hv (by omega) (by omega) (by rw [rcB, mxs_app, ← hhv, show a + 1 + d = a + 1 + d from rfl, prL, if_neg (by rw [hcr]; decide)]; rfl) _ ob hst hC _ hL ls (lv_sub hl [1, 2, 0] rfl))
              ·
                have hcr : (matB (mw ro) a && matB (mw ro) (a + 1 + d)) = true := by rw [show decide (a = a + 1 + d) = false from decide_eq_false (by omega)] at c_25; exact c_25
                refine lv_aload_n hx hb dX1_mixReach_28 rfl (lv_at hl 0 rfl) ?_
                refine lv_aload_n hx hb dX1_mixReach_29 rfl (lv_at hl 0 rfl) ?_
                refine r_get (C := RX1) (T := TX1) (N := 5) (ci := 1) X in_X1 rfl 0 (Nat.le_of_ble_eq_true rfl) q280 (fun _ h => h) ob rfl dX1_mixReach_30 ?_
                refine lv_iload_n hx hb dX1_mixReach_33 rfl (lv_at hl 1 rfl) ?_
                refine lv_iload_n hx hb dX1_mixReach_34 rfl (lv_at hl 2 rfl) ?_
                refine Ct.callV (ct_X2_byAllPairs l g ro n x sta a (a + 1 + d) hn (by omega) (by omega)) X hL hl vb_X2_byAllPairs q1278 (hsq.recv hKV) rfl rfl (Nat.le_of_ble_eq_true rfl) dX1_mixReach_35 ⟨Nat.le_of_ble_eq_true rfl, Nat.le_of_ble_eq_true rfl⟩ (by omega) (by omega) hsq (fun r H locs hL hp => ?_)
                obtain ⟨rfl, hE1⟩ := hp
                have ob := ob.ext hE1
                have hst := hst.ext hE1
                have hC := hC.trans hE1.chg
                have hsq := hst.q
                obtain ⟨sb, sd, PG, PS, obs, hbg, hsd, hof, hinj⟩ := id hsq
                refine W.stk (w := (reaI ro n a (a + 1 + d) 100)) (prs_rea hR (by omega) (by omega)) ?_
                refine lv_i2l hx hb dX1_mixReach_38 rfl ?_
                refine Ct.callV (ct_X1_mix l g o sta dq sl bf hv ((reaI ro n a (a + 1 + d) 100).toInt64) loo) X hL hl vb_X1_mix q1148 (ob.recv hKV rfl) rfl rfl (Nat.le_of_ble_eq_true rfl) dX1_mixReach_39 ⟨Nat.le_of_ble_eq_true rfl, Nat.le_of_ble_eq_true rfl⟩ (by omega) (by omega) ob (fun r H locs hL hp => ?_)
                obtain ⟨rfl, ob, hon⟩ := hp
                obtain ⟨h1, eh1⟩ : ∃ z, z = 31 * hv + ((reaI ro n a (a + 1 + d) 100).toInt64) := ⟨_, rfl⟩
                rw [← eh1] at ob
                have hst := hst.keep (hon.chg rfl)
                have hC := hC.trans (hon.chg rfl)
                have hsq := hst.q
                obtain ⟨sb, sd, PG, PS, obs, hbg, hsd, hof, hinj⟩ := id hsq
                refine lv_aload_n hx hb dX1_mixReach_42 rfl (lv_at hl 0 rfl) ?_
                refine lv_aload_n hx hb dX1_mixReach_43 rfl (lv_at hl 0 rfl) ?_
                refine r_get (C := RX1) (T := TX1) (N := 5) (ci := 1) X in_X1 rfl 0 (Nat.le_of_ble_eq_true rfl) q280 (fun _ h => h) ob rfl dX1_mixReach_44 ?_
                refine lv_iload_n hx hb dX1_mixReach_47 rfl (lv_at hl 1 rfl) ?_
                refine lv_iload_n hx hb dX1_mixReach_48 rfl (lv_at hl 2 rfl) ?_
                refine Ct.callV (ct_X2_bySteps l g ro n x sta a (a + 1 + d) hn (by omega) (by omega)) X hL hl vb_X2_bySteps q1287 (hsq.recv hKV) rfl rfl (Nat.le_of_ble_eq_true rfl) dX1_mixReach_49 ⟨Nat.le_of_ble_eq_true rfl, Nat.le_of_ble_eq_true rfl⟩ (by omega) (by omega) hsq (fun r H locs hL hp => ?_)
                obtain ⟨rfl, hE1⟩ := hp
                have ob := ob.ext hE1
                have hst := hst.ext hE1
                have hC := hC.trans hE1.chg
                have hsq := hst.q
                obtain ⟨sb, sd, PG, PS, obs, hbg, hsd, hof, hinj⟩ := id hsq
                refine W.stk (w := (reaI ro n a (a + 1 + d) 100)) (st_rea _ _ _ _ _) ?_
                refine lv_i2l hx hb dX1_mixReach_52 rfl ?_
                refine Ct.callV (ct_X1_mix l g o sta dq sl bf h1 ((reaI ro n a (a + 1 + d) 100).toInt64) loo) X hL hl vb_X1_mix q1148 (ob.recv hKV rfl) rfl rfl (Nat.le_of_ble_eq_true rfl) dX1_mixReach_53 ⟨Nat.le_of_ble_eq_true rfl, Nat.le_of_ble_eq_true rfl⟩ (by omega) (by omega) ob (fun r H locs hL hp => ?_)
                obtain ⟨rfl, ob, hon⟩ := hp
                obtain ⟨h2, eh2⟩ : ∃ z, z = 31 * h1 + ((reaI ro n a (a + 1 + d) 100).toInt64) := ⟨_, rfl⟩
                rw [← eh2] at ob
                have hst := hst.keep (hon.chg rfl)
                have hC := hC.trans (hon.chg rfl)
                have hsq := hst.q
                obtain ⟨sb, sd, PG, PS, obs, hbg, hsd, hof, hinj⟩ := id hsq
                refine lv_iinc (v := nI (a + 1 + d + 1)) (lv' := [(2, .int _), (0, .ref _), (1, .int _)]) hx hb dX1_mixReach_56 hl (k := 2) rfl (nI_iinc _ 1 rfl) (by decide) rfl (fun ls hl => ?_)
                refine lv_goto (tgt := 11) hx hb dX1_mixReach_59 (by decide) ?_
                exact W.widen (by omega) (by omega) (ih11 (d + 1) h2 (by omega) (by omega) (by rw [rcB, mxs_app, ← hhv, prL, if_pos hcr, eh2, eh1]; rfl) _ ob hst hC _ hL ls (lv_sub hl [1, 2, 0] rfl))
        exact W.widen (by omega) (by omega) (L11 5 0 hv (by omega) (by omega) ehv0.symm _ ob hst hC _ hL ls (lv_sub hl [1, 2, 0] rfl))
  exact W.widen (by omega) (by omega) (L2 5 0 hh (by omega) (by omega) rfl _ ob hst hC _ hL ls (lv_sub hl [1, 0] rfl))
theorem vb_X1_mixReach : VB yX1_mixReach cX1_mixReach 3 none 0 := ⟨q1271, qs41, q99, q1272, ⟨by decide, by decide, by decide +kernel⟩⟩

set_option maxRecDepth 100000 in
set_option maxHeartbeats 4000000 in
theorem ct_X1_digest (l : Launch) (g : GT) (F : Nat → Prop) (S : MS) (n st ln : Nat) (hf hs : Bool) (o : Nat)  : Ct l g yX1_digest cX1_digest 5 (some .long) 21 6200 50000 [.ref o] (SkR g F S n st ln hf hs o) (OpP g F o (q_l S (mxs 4513 (digL (S.1 0) n st hf hs ln (S.1 4))))) := by
  refine Ct.of (by decide) (Nat.le_of_ble_eq_true rfl) ?_
  intro p e s m args below meth c X hP ls hl
  have hx := X.1
  have hb := X.2.1
  have hKV := X.2.2.2.2.2.2.2.1.1
  have hL : ∀ q ∈ ([] : List Loc), gLo g ≤ q.base := fun _ h => by cases h
  obtain ⟨sta, dq, sl, bf, x, hh, PB, PD, xs, fs, ob, hst, hR, hn, ⟨hbf, hPB⟩, ⟨hdq, hPD⟩, ⟨hsl, hslo⟩, hf0, hf1, loo, hFo, hback⟩ := hP.vd hKV.gE
  have hw := hR.w
  have hgE := hKV.gE
  have hsq := hst.q
  obtain ⟨sb, sd, PG, PS, obs, hbg, hsd, hof, hinj⟩ := id hsq
  have hl : lv_has ls 5 [(0, .ref o)] := hl
  have hC : Chg (fun q => q = o) s.heap s.heap := Chg.rfl'
  have hl60 := hbf.chr.1
  have hso : sta ≠ o := by obtain ⟨PW, IW0, hw1, hw2, -⟩ := id hst; exact hw2 _ hw1.facts.1
  refine lv_aload_n hx hb dX1_digest_0 rfl (lv_at hl 0 rfl) ?_
  refine lv_ldc2 hx hb X.2.2.2.1 (X.2.2.2.2.1 _ q1143) dX1_digest_1 ?_
  refine r_put (C := RX1) (T := TX1) (N := 5) (ci := 1) X in_X1 tyX1 tyX1_ok nmX1 rfl 4 (Nat.le_of_ble_eq_true rfl) q285 (fun _ h => h) rfl hL ob loo rfl rfl (Nat.le_of_ble_eq_true rfl) dX1_digest_4 (fun H locs hL h1 h2 => ?_)
  have ob : Ob g o 1 [.ref sta, .ref dq, .ref sl, .ref bf, .long 4513] H := h1
  have obs := obs.on h2 hso
  have hsl := hsl.on h2 (by omega)
  have hC := hC.trans (h2.chg rfl)
  have hst := hst.keep (h2.chg rfl)
  have hbf := hbf.keep (h2.chg (P := fun q => q = o) rfl) hPB
  have hdq := hdq.keep (h2.chg (P := fun q => q = o) rfl) hPD
  have hsq := hst.q
  obtain ⟨sb, sd, PG, PS, obs, hbg, hsd, hof, hinj⟩ := id hsq
  refine lv_aload_n hx hb dX1_digest_7 rfl (lv_at hl 0 rfl) ?_
  refine Ct.callV (ct_X1_mixSides l g (S.1 0) n x o sta dq sl bf 4513 loo hn hR) X hL hl vb_X1_mixSides q1144 (ob.recv hKV rfl) rfl rfl (Nat.le_of_ble_eq_true rfl) dX1_digest_8 ⟨Nat.le_of_ble_eq_true rfl, Nat.le_of_ble_eq_true rfl⟩ (by omega) (by omega) ⟨ob, hst⟩ (fun r H locs hL hp => ?_)
  obtain ⟨rfl, ob, hst, hC1⟩ := hp
  have hbf := hbf.keep hC1 hPB
  have hdq := hdq.keep hC1 hPD
  have hsl := hsl.chg hC1 hslo
  have hC := hC.trans hC1
  obtain ⟨hA1, ehA1⟩ : ∃ z, z = mxs 4513 (sidL (S.1 0) ++ preL (S.1 0) n) := ⟨_, rfl⟩
  rw [← ehA1] at ob
  have hsq := hst.q
  obtain ⟨sb, sd, PG, PS, obs, hbg, hsd, hof, hinj⟩ := id hsq
  refine lv_aload_n hx hb dX1_digest_11 rfl (lv_at hl 0 rfl) ?_
  refine Ct.callV (ct_X1_mixOffers l g (S.1 0) n x o sta dq sl bf hA1 loo hn hR) X hL hl vb_X1_mixOffers q1153 (ob.recv hKV rfl) rfl rfl (Nat.le_of_ble_eq_true rfl) dX1_digest_12 ⟨Nat.le_of_ble_eq_true rfl, Nat.le_of_ble_eq_true rfl⟩ (by omega) (by omega) ⟨ob, hst⟩ (fun r H locs hL hp => ?_)
  obtain ⟨rfl, ob, hst, hC1⟩ := hp
  have hbf := hbf.keep hC1 hPB
  have hdq := hdq.keep hC1 hPD
  have hsl := hsl.chg hC1 hslo
  have hC := hC.trans hC1
  obtain ⟨hA2, ehA2⟩ : ∃ z, z = mxs hA1 (ofA (S.1 0) n n) := ⟨_, rfl⟩
  rw [← ehA2] at ob
  have hsq := hst.q
  obtain ⟨sb, sd, PG, PS, obs, hbg, hsd, hof, hinj⟩ := id hsq
  refine lv_aload_n hx hb dX1_digest_15 rfl (lv_at hl 0 rfl) ?_
  refine Ct.callV (ct_X1_mixTold l g (S.1 0) n x o sta dq sl bf hA2 loo hn hR) X hL hl vb_X1_mixTold q1203 (ob.recv hKV rfl) rfl rfl (Nat.le_of_ble_eq_true rfl) dX1_digest_16 ⟨Nat.le_of_ble_eq_true rfl, Nat.le_of_ble_eq_true rfl⟩ (by omega) (by omega) ⟨ob, hst⟩ (fun r H locs hL hp => ?_)
  obtain ⟨rfl, ob, hst, hC1⟩ := hp
  have hbf := hbf.keep hC1 hPB
  have hdq := hdq.keep hC1 hPD
  have hsl := hsl.chg hC1 hslo
  have hC := hC.trans hC1
  obtain ⟨hA3, ehA3⟩ : ∃ z, z = mxs hA2 (te3L (S.1 0) n ++ someA (S.1 0) n) := ⟨_, rfl⟩
  rw [← ehA3] at ob
  have hsq := hst.q
  obtain ⟨sb, sd, PG, PS, obs, hbg, hsd, hof, hinj⟩ := id hsq
  refine lv_aload_n hx hb dX1_digest_19 rfl (lv_at hl 0 rfl) ?_
  refine Ct.callV (ct_X1_mixOrders l g (S.1 0) n x o sta dq sl bf hA3 loo hn hR) X hL hl vb_X1_mixOrders q1249 (ob.recv hKV rfl) rfl rfl (Nat.le_of_ble_eq_true rfl) dX1_digest_20 ⟨Nat.le_of_ble_eq_true rfl, Nat.le_of_ble_eq_true rfl⟩ (by omega) (by omega) ⟨ob, hst⟩ (fun r H locs hL hp => ?_)
  obtain ⟨rfl, ob, hst, hC1⟩ := hp
  have hbf := hbf.keep hC1 hPB
  have hdq := hdq.keep hC1 hPD
  have hsl := hsl.chg hC1 hslo
  have hC := hC.trans hC1
  obtain ⟨hA4, ehA4⟩ : ∃ z, z = mxs hA3 (tkL (S.1 0) n (min (cnt (tellB (S.1 0) n (hasB (matI (mw (S.1 0))))) n) 40) ++ scL (S.1 0) n (min 3 (cnt (cB (S.1 0)) n))) := ⟨_, rfl⟩
  rw [← ehA4] at ob
  have hsq := hst.q
  obtain ⟨sb, sd, PG, PS, obs, hbg, hsd, hof, hinj⟩ := id hsq
  refine lv_aload_n hx hb dX1_digest_23 rfl (lv_at hl 0 rfl) ?_
  refine Ct.callV (ct_X1_mixReach l g (S.1 0) n x o sta dq sl bf hA4 loo hn hR) X hL hl vb_X1_mixReach q1269 (ob.recv hKV rfl) rfl rfl (Nat.le_of_ble_eq_true rfl) dX1_digest_24 ⟨Nat.le_of_ble_eq_true rfl, Nat.le_of_ble_eq_true rfl⟩ (by omega) (by omega) ⟨ob, hst⟩ (fun r H locs hL hp => ?_)
  obtain ⟨rfl, ob, hst, hC1⟩ := hp
  have hbf := hbf.keep hC1 hPB
  have hdq := hdq.keep hC1 hPD
  have hsl := hsl.chg hC1 hslo
  have hC := hC.trans hC1
  obtain ⟨hA5, ehA5⟩ : ∃ z, z = mxs hA4 (rcA (S.1 0) n 4) := ⟨_, rfl⟩
  rw [← ehA5] at ob
  have hsq := hst.q
  obtain ⟨sb, sd, PG, PS, obs, hbg, hsd, hof, hinj⟩ := id hsq
  refine lv_aload_n hx hb dX1_digest_27 rfl (lv_at hl 0 rfl) ?_
  refine lv_aload_n hx hb dX1_digest_28 rfl (lv_at hl 0 rfl) ?_
  refine r_get (C := RX1) (T := TX1) (N := 5) (ci := 1) X in_X1 rfl 0 (Nat.le_of_ble_eq_true rfl) q280 (fun _ h => h) ob rfl dX1_digest_29 ?_
  refine r_getN (C := RX2) (T := TX2) (N := 4) (ci := 2) X in_X2 rfl 2 (Nat.le_of_ble_eq_true rfl) q215 (fun _ h => h) obs rfl dX1_digest_32 ?_
  refine lv_i2l hx hb dX1_digest_35 rfl ?_
  refine Ct.callV (ct_X1_mix l g o sta dq sl bf hA5 ((S.1 0 177).toInt64) loo) X hL hl vb_X1_mix q1148 (ob.recv hKV rfl) rfl rfl (Nat.le_of_ble_eq_true rfl) dX1_digest_36 ⟨Nat.le_of_ble_eq_true rfl, Nat.le_of_ble_eq_true rfl⟩ (by omega) (by omega) ob (fun r H locs hL hp => ?_)
  obtain ⟨rfl, ob, hon⟩ := hp
  obtain ⟨h1, eh1⟩ : ∃ z, z = 31 * hA5 + ((S.1 0 177).toInt64) := ⟨_, rfl⟩
  rw [← eh1] at ob
  have hst := hst.keep (hon.chg rfl)
  have hbf := hbf.keep (hon.chg (P := fun q => q = o) rfl) hPB
  have hdq := hdq.keep (hon.chg (P := fun q => q = o) rfl) hPD
  have hsl := hsl.chg (hon.chg (P := fun q => q = o) rfl) hslo
  have hC := hC.trans (hon.chg rfl)
  have hsq := hst.q
  obtain ⟨sb, sd, PG, PS, obs, hbg, hsd, hof, hinj⟩ := id hsq
  refine lv_aload_n hx hb dX1_digest_39 rfl (lv_at hl 0 rfl) ?_
  refine lv_aload_n hx hb dX1_digest_40 rfl (lv_at hl 0 rfl) ?_
  refine r_get (C := RX1) (T := TX1) (N := 5) (ci := 1) X in_X1 rfl 0 (Nat.le_of_ble_eq_true rfl) q280 (fun _ h => h) ob rfl dX1_digest_41 ?_
  refine r_getN (C := RX2) (T := TX2) (N := 4) (ci := 2) X in_X2 rfl 3 (Nat.le_of_ble_eq_true rfl) q217 (fun _ h => h) obs rfl dX1_digest_44 ?_
  refine lv_i2l hx hb dX1_digest_47 rfl ?_
  refine Ct.callV (ct_X1_mix l g o sta dq sl bf h1 ((S.1 0 178).toInt64) loo) X hL hl vb_X1_mix q1148 (ob.recv hKV rfl) rfl rfl (Nat.le_of_ble_eq_true rfl) dX1_digest_48 ⟨Nat.le_of_ble_eq_true rfl, Nat.le_of_ble_eq_true rfl⟩ (by omega) (by omega) ob (fun r H locs hL hp => ?_)
  obtain ⟨rfl, ob, hon⟩ := hp
  obtain ⟨h2, eh2⟩ : ∃ z, z = 31 * h1 + ((S.1 0 178).toInt64) := ⟨_, rfl⟩
  rw [← eh2] at ob
  have hst := hst.keep (hon.chg rfl)
  have hbf := hbf.keep (hon.chg (P := fun q => q = o) rfl) hPB
  have hdq := hdq.keep (hon.chg (P := fun q => q = o) rfl) hPD
  have hsl := hsl.chg (hon.chg (P := fun q => q = o) rfl) hslo
  have hC := hC.trans (hon.chg rfl)
  have hsq := hst.q
  obtain ⟨sb, sd, PG, PS, obs, hbg, hsd, hof, hinj⟩ := id hsq
  refine lv_aload_n hx hb dX1_digest_51 rfl (lv_at hl 0 rfl) ?_
  refine lv_aload_n hx hb dX1_digest_52 rfl (lv_at hl 0 rfl) ?_
  refine r_get (C := RX1) (T := TX1) (N := 5) (ci := 1) X in_X1 rfl 0 (Nat.le_of_ble_eq_true rfl) q280 (fun _ h => h) ob rfl dX1_digest_53 ?_
  refine Ct.callV (ct_X2_pairsBeaten l g (S.1 0) n x sta hn hw) X hL hl vb_X2_pairsBeaten q1115 (hsq.recv hKV) rfl rfl (Nat.le_of_ble_eq_true rfl) dX1_digest_56 ⟨Nat.le_of_ble_eq_true rfl, Nat.le_of_ble_eq_true rfl⟩ (by omega) (by omega) hsq (fun r H locs hL hp => ?_)
  obtain ⟨rfl, hE1⟩ := hp
  have ob := ob.ext hE1
  have hst := hst.ext hE1
  have hbf := hbf.ext hE1
  have hdq := hdq.ext hE1
  have hsl := hsl.ext hE1
  have hC := hC.trans hE1.chg
  have hsq := hst.q
  obtain ⟨sb, sd, PG, PS, obs, hbg, hsd, hof, hinj⟩ := id hsq
  refine W.stk (w := (nI (sumN (beaN (S.1 0) n) n))) (congrArg nI (jn_sum (S.1 0) n)) ?_
  refine lv_i2l hx hb dX1_digest_59 rfl ?_
  refine Ct.callV (ct_X1_mix l g o sta dq sl bf h2 ((nI (sumN (beaN (S.1 0) n) n)).toInt64) loo) X hL hl vb_X1_mix q1148 (ob.recv hKV rfl) rfl rfl (Nat.le_of_ble_eq_true rfl) dX1_digest_60 ⟨Nat.le_of_ble_eq_true rfl, Nat.le_of_ble_eq_true rfl⟩ (by omega) (by omega) ob (fun r H locs hL hp => ?_)
  obtain ⟨rfl, ob, hon⟩ := hp
  obtain ⟨h3, eh3⟩ : ∃ z, z = 31 * h2 + ((nI (sumN (beaN (S.1 0) n) n)).toInt64) := ⟨_, rfl⟩
  rw [← eh3] at ob
  have hst := hst.keep (hon.chg rfl)
  have hbf := hbf.keep (hon.chg (P := fun q => q = o) rfl) hPB
  have hdq := hdq.keep (hon.chg (P := fun q => q = o) rfl) hPD
  have hsl := hsl.chg (hon.chg (P := fun q => q = o) rfl) hslo
  have hC := hC.trans (hon.chg rfl)
  have hsq := hst.q
  obtain ⟨sb, sd, PG, PS, obs, hbg, hsd, hof, hinj⟩ := id hsq
  refine lv_aload_n hx hb dX1_digest_63 rfl (lv_at hl 0 rfl) ?_
  refine lv_aload_n hx hb dX1_digest_64 rfl (lv_at hl 0 rfl) ?_
  refine r_get (C := RX1) (T := TX1) (N := 5) (ci := 1) X in_X1 rfl 1 (Nat.le_of_ble_eq_true rfl) q281 (fun _ h => h) ob rfl dX1_digest_65 ?_
  refine Cp.callV (v := .int (nI st)) (ct_J3_size l g PD xs st dq ) X hL hl vb_J3_size q305 (hdq.recv hKV) rfl rfl (Nat.le_of_ble_eq_true rfl) dX1_digest_68 ⟨Nat.le_of_ble_eq_true rfl, Nat.le_of_ble_eq_true rfl⟩ (by omega) (by omega) hdq (fun locs hL => ?_)
  refine lv_i2l hx hb dX1_digest_71 rfl ?_
  refine Ct.callV (ct_X1_mix l g o sta dq sl bf h3 ((nI st).toInt64) loo) X hL hl vb_X1_mix q1148 (ob.recv hKV rfl) rfl rfl (Nat.le_of_ble_eq_true rfl) dX1_digest_72 ⟨Nat.le_of_ble_eq_true rfl, Nat.le_of_ble_eq_true rfl⟩ (by omega) (by omega) ob (fun r H locs hL hp => ?_)
  obtain ⟨rfl, ob, hon⟩ := hp
  obtain ⟨h4, eh4⟩ : ∃ z, z = 31 * h3 + ((nI st).toInt64) := ⟨_, rfl⟩
  rw [← eh4] at ob
  have hst := hst.keep (hon.chg rfl)
  have hbf := hbf.keep (hon.chg (P := fun q => q = o) rfl) hPB
  have hdq := hdq.keep (hon.chg (P := fun q => q = o) rfl) hPD
  have hsl := hsl.chg (hon.chg (P := fun q => q = o) rfl) hslo
  have hC := hC.trans (hon.chg rfl)
  have hsq := hst.q
  obtain ⟨sb, sd, PG, PS, obs, hbg, hsd, hof, hinj⟩ := id hsq
  refine lv_aload_n hx hb dX1_digest_75 rfl (lv_at hl 0 rfl) ?_
  refine lv_aload_n hx hb dX1_digest_76 rfl (lv_at hl 0 rfl) ?_
  refine r_get (C := RX1) (T := TX1) (N := 5) (ci := 1) X in_X1 rfl 0 (Nat.le_of_ble_eq_true rfl) q280 (fun _ h => h) ob rfl dX1_digest_77 ?_
  refine Ct.callV (ct_X2_share l g (S.1 0) n x sta hn hw) X hL hl vb_X2_share q1135 (hsq.recv hKV) rfl rfl (Nat.le_of_ble_eq_true rfl) dX1_digest_80 ⟨Nat.le_of_ble_eq_true rfl, Nat.le_of_ble_eq_true rfl⟩ (by omega) (by omega) hsq (fun r H locs hL hp => ?_)
  obtain ⟨rfl, hE1⟩ := hp
  have ob := ob.ext hE1
  have hst := hst.ext hE1
  have hbf := hbf.ext hE1
  have hdq := hdq.ext hE1
  have hsl := hsl.ext hE1
  have hC := hC.trans hE1.chg
  have hsq := hst.q
  obtain ⟨sb, sd, PG, PS, obs, hbg, hsd, hof, hinj⟩ := id hsq
  refine Cp.callS (v := .long (dlB (if (actL (S.1 0) n).length = 0 then FP.dconst0 else FP.ddiv (FP.i2d (nI (tolL (S.1 0) (nI 15) (actL (S.1 0) n)).length)) (FP.i2d (nI (actL (S.1 0) n).length))))) (ct_J23_doubleToLongBits l g (if (actL (S.1 0) n).length = 0 then FP.dconst0 else FP.ddiv (FP.i2d (nI (tolL (S.1 0) (nI 15) (actL (S.1 0) n)).length)) (FP.i2d (nI (actL (S.1 0) n).length))) ) X hL hl sb_J23_doubleToLongBits q1295 rfl rfl (Nat.le_of_ble_eq_true rfl) dX1_digest_83 ⟨Nat.le_of_ble_eq_true rfl, Nat.le_of_ble_eq_true rfl⟩ (by omega) (by omega) trivial (fun locs hL => ?_)
  refine W.stkL (w :=  (dlB (shF (cnt (tellB (S.1 0) n (hasB (matI (mw (S.1 0))))) n) (cnt (cB (S.1 0)) n)))) (by rw [jn_sh]) ?_
  refine Ct.callV (ct_X1_mix l g o sta dq sl bf h4 (dlB (shF (cnt (tellB (S.1 0) n (hasB (matI (mw (S.1 0))))) n) (cnt (cB (S.1 0)) n))) loo) X hL hl vb_X1_mix q1148 (ob.recv hKV rfl) rfl rfl (Nat.le_of_ble_eq_true rfl) dX1_digest_86 ⟨Nat.le_of_ble_eq_true rfl, Nat.le_of_ble_eq_true rfl⟩ (by omega) (by omega) ob (fun r H locs hL hp => ?_)
  obtain ⟨rfl, ob, hon⟩ := hp
  obtain ⟨h5, eh5⟩ : ∃ z, z = 31 * h4 + (dlB (shF (cnt (tellB (S.1 0) n (hasB (matI (mw (S.1 0))))) n) (cnt (cB (S.1 0)) n))) := ⟨_, rfl⟩
  rw [← eh5] at ob
  have hst := hst.keep (hon.chg rfl)
  have hbf := hbf.keep (hon.chg (P := fun q => q = o) rfl) hPB
  have hdq := hdq.keep (hon.chg (P := fun q => q = o) rfl) hPD
  have hsl := hsl.chg (hon.chg (P := fun q => q = o) rfl) hslo
  have hC := hC.trans (hon.chg rfl)
  have hsq := hst.q
  obtain ⟨sb, sd, PG, PS, obs, hbg, hsd, hof, hinj⟩ := id hsq
  refine lv_aload_n hx hb dX1_digest_89 rfl (lv_at hl 0 rfl) ?_
  refine r_get (C := RX1) (T := TX1) (N := 5) (ci := 1) X in_X1 rfl 2 (Nat.le_of_ble_eq_true rfl) q282 (fun _ h => h) ob rfl dX1_digest_90 ?_
  refine lv_astore_n (lv' := [(1, .ref _), (0, .ref _)]) hx hb dX1_digest_93 rfl hl (by decide) rfl (fun ls hl => ?_)
  refine lv_aload_n hx hb dX1_digest_94 rfl (lv_at hl 0 rfl) ?_
  refine r_lenq (k := 5) (v := nI 2) X hsl rfl rfl dX1_digest_95 ?_
  refine lv_istore_n (lv' := [(2, .int _), (1, .ref _), (0, .ref _)]) hx hb dX1_digest_96 rfl hl (by decide) rfl (fun ls hl => ?_)
  refine lv_iconst (v := nI 0) hx hb dX1_digest_97 (by decide) ?_
  refine lv_istore_n (lv' := [(3, .int _), (2, .int _), (1, .ref _), (0, .ref _)]) hx hb dX1_digest_98 rfl hl (by decide) rfl (fun ls hl => ?_)
  refine lv_iload_n hx hb dX1_digest_99 rfl (lv_at hl 0 rfl) ?_
  refine lv_iload_n hx hb dX1_digest_100 rfl (lv_at hl 1 rfl) ?_
  refine n_icmp_ge (tgt := 133) X dX1_digest_101 (by decide) (by omega) (by omega) (fun c_101 => ?_) (fun c_101 => ?_)
  ·
    exact absurd c_101 (by decide)
  ·
    refine lv_aload_n hx hb dX1_digest_104 rfl (lv_at hl 2 rfl) ?_
    refine lv_iload_n hx hb dX1_digest_105 rfl (lv_at hl 0 rfl) ?_
    rcases hz0 : fs 0 with _ | w0
    ·
      have hfv0 : hf = false := hf0.mp hz0
      refine r_qld (k := 5) X hsl rfl 0 (nI_cl (by omega) rfl) (nI_nn (by omega) rfl) (by omega) dX1_digest_106 ?_
      rw [show va_rf (fs 0) = .null from by rw [hz0]; rfl]
      refine lv_astoreN (lv' := [(4, .null), (3, .int _), (2, .int _), (1, .ref _), (0, .ref _)]) hx hb dX1_digest_107 hl (by decide) rfl (fun ls hl => ?_)
      refine lv_aload_n hx hb dX1_digest_109 rfl (lv_at hl 4 rfl) ?_
      refine lv_aloadN hx hb dX1_digest_110 (lv_at hl 0 rfl) ?_
      refine lv_ifnullN (tgt := 119) hx hb dX1_digest_112 (by decide) ?_
      refine lv_iconst (v := nI 0) hx hb dX1_digest_119 (by decide) ?_
      refine Cp.callS (v := .int (nI 0)) (ct_X1_flag l g false ) X hL hl sb_X1_flag q1178 rfl rfl (Nat.le_of_ble_eq_true rfl) dX1_digest_120 ⟨Nat.le_of_ble_eq_true rfl, Nat.le_of_ble_eq_true rfl⟩ (by omega) (by omega) trivial (fun locs hL => ?_)
      refine lv_i2l hx hb dX1_digest_123 rfl ?_
      refine W.stkL (w :=  (bL hf)) (by rw [hfv0]; decide) ?_
      refine Ct.callV (ct_X1_mix l g o sta dq sl bf h5 (bL hf) loo) X hL hl vb_X1_mix q1148 (ob.recv hKV rfl) rfl rfl (Nat.le_of_ble_eq_true rfl) dX1_digest_124 ⟨Nat.le_of_ble_eq_true rfl, Nat.le_of_ble_eq_true rfl⟩ (by omega) (by omega) ob (fun r H locs hL hp => ?_)
      obtain ⟨rfl, ob, hon⟩ := hp
      obtain ⟨h6, eh6⟩ : ∃ z, z = 31 * h5 + (bL hf) := ⟨_, rfl⟩
      rw [← eh6] at ob
      have hst := hst.keep (hon.chg rfl)
      have hbf := hbf.keep (hon.chg (P := fun q => q = o) rfl) hPB
      have hdq := hdq.keep (hon.chg (P := fun q => q = o) rfl) hPD
      have hsl := hsl.chg (hon.chg (P := fun q => q = o) rfl) hslo
      have hC := hC.trans (hon.chg rfl)
      have hsq := hst.q
      obtain ⟨sb, sd, PG, PS, obs, hbg, hsd, hof, hinj⟩ := id hsq
      refine lv_iinc (v := nI (1)) (lv' := [(3, .int _), (4, .null), (2, .int _), (1, .ref _), (0, .ref _)]) hx hb dX1_digest_127 hl (k := 1) rfl (nI_iinc _ 1 rfl) (by decide) rfl (fun ls hl => ?_)
      refine lv_goto (tgt := 99) hx hb dX1_digest_130 (by decide) ?_
      refine lv_iload_n hx hb dX1_digest_99 rfl (lv_at hl 0 rfl) ?_
      refine lv_iload_n hx hb dX1_digest_100 rfl (lv_at hl 2 rfl) ?_
      refine n_icmp_ge (tgt := 133) X dX1_digest_101 (by decide) (by omega) (by omega) (fun c_101 => ?_) (fun c_101 => ?_)
      ·
        exact absurd c_101 (by decide)
      ·
        refine lv_aload_n hx hb dX1_digest_104 rfl (lv_at hl 3 rfl) ?_
        refine lv_iload_n hx hb dX1_digest_105 rfl (lv_at hl 0 rfl) ?_
        rcases hz1 : fs 1 with _ | w1
        ·
          have hfv1 : hs = false := hf1.mp hz1
          refine r_qld (k := 5) X hsl rfl 1 (nI_cl (by omega) rfl) (nI_nn (by omega) rfl) (by omega) dX1_digest_106 ?_
          rw [show va_rf (fs 1) = .null from by rw [hz1]; rfl]
          refine lv_astoreN (lv' := [(4, .null), (3, .int _), (2, .int _), (1, .ref _), (0, .ref _)]) hx hb dX1_digest_107 hl (by decide) rfl (fun ls hl => ?_)
          refine lv_aload_n hx hb dX1_digest_109 rfl (lv_at hl 4 rfl) ?_
          refine lv_aloadN hx hb dX1_digest_110 (lv_at hl 0 rfl) ?_
          refine lv_ifnullN (tgt := 119) hx hb dX1_digest_112 (by decide) ?_
          refine lv_iconst (v := nI 0) hx hb dX1_digest_119 (by decide) ?_
          refine Cp.callS (v := .int (nI 0)) (ct_X1_flag l g false ) X hL hl sb_X1_flag q1178 rfl rfl (Nat.le_of_ble_eq_true rfl) dX1_digest_120 ⟨Nat.le_of_ble_eq_true rfl, Nat.le_of_ble_eq_true rfl⟩ (by omega) (by omega) trivial (fun locs hL => ?_)
          refine lv_i2l hx hb dX1_digest_123 rfl ?_
          refine W.stkL (w :=  (bL hs)) (by rw [hfv1]; decide) ?_
          refine Ct.callV (ct_X1_mix l g o sta dq sl bf h6 (bL hs) loo) X hL hl vb_X1_mix q1148 (ob.recv hKV rfl) rfl rfl (Nat.le_of_ble_eq_true rfl) dX1_digest_124 ⟨Nat.le_of_ble_eq_true rfl, Nat.le_of_ble_eq_true rfl⟩ (by omega) (by omega) ob (fun r H locs hL hp => ?_)
          obtain ⟨rfl, ob, hon⟩ := hp
          obtain ⟨h7, eh7⟩ : ∃ z, z = 31 * h6 + (bL hs) := ⟨_, rfl⟩
          rw [← eh7] at ob
          have hst := hst.keep (hon.chg rfl)
          have hbf := hbf.keep (hon.chg (P := fun q => q = o) rfl) hPB
          have hdq := hdq.keep (hon.chg (P := fun q => q = o) rfl) hPD
          have hsl := hsl.chg (hon.chg (P := fun q => q = o) rfl) hslo
          have hC := hC.trans (hon.chg rfl)
          have hsq := hst.q
          obtain ⟨sb, sd, PG, PS, obs, hbg, hsd, hof, hinj⟩ := id hsq
          refine lv_iinc (v := nI (2)) (lv' := [(3, .int _), (4, .null), (2, .int _), (1, .ref _), (0, .ref _)]) hx hb dX1_digest_127 hl (k := 1) rfl (nI_iinc _ 1 rfl) (by decide) rfl (fun ls hl => ?_)
          refine lv_goto (tgt := 99) hx hb dX1_digest_130 (by decide) ?_
          refine lv_iload_n hx hb dX1_digest_99 rfl (lv_at hl 0 rfl) ?_
          refine lv_iload_n hx hb dX1_digest_100 rfl (lv_at hl 2 rfl) ?_
          refine n_icmp_ge (tgt := 133) X dX1_digest_101 (by decide) (by omega) (by omega) (fun c_101 => ?_) (fun c_101 => ?_)
          ·
            refine lv_aload_n hx hb dX1_digest_133 rfl (lv_at hl 4 rfl) ?_
            refine lv_aload_n hx hb dX1_digest_134 rfl (lv_at hl 4 rfl) ?_
            refine r_get (C := RX1) (T := TX1) (N := 5) (ci := 1) X in_X1 rfl 3 (Nat.le_of_ble_eq_true rfl) q284 (fun _ h => h) ob rfl dX1_digest_135 ?_
            refine Cp.callV (v := .int (nI ln)) (ct_J5_length l g PB (S.1 4) ln bf ) X hL hl vb_J5_length q621 (hbf.recv hKV) rfl rfl (Nat.le_of_ble_eq_true rfl) dX1_digest_138 ⟨Nat.le_of_ble_eq_true rfl, Nat.le_of_ble_eq_true rfl⟩ (by omega) (by omega) hbf (fun locs hL => ?_)
            refine lv_i2l hx hb dX1_digest_141 rfl ?_
            refine Ct.callV (ct_X1_mix l g o sta dq sl bf h7 ((nI ln).toInt64) loo) X hL hl vb_X1_mix q1148 (ob.recv hKV rfl) rfl rfl (Nat.le_of_ble_eq_true rfl) dX1_digest_142 ⟨Nat.le_of_ble_eq_true rfl, Nat.le_of_ble_eq_true rfl⟩ (by omega) (by omega) ob (fun r H locs hL hp => ?_)
            obtain ⟨rfl, ob, hon⟩ := hp
            obtain ⟨h8, eh8⟩ : ∃ z, z = 31 * h7 + ((nI ln).toInt64) := ⟨_, rfl⟩
            rw [← eh8] at ob
            have hst := hst.keep (hon.chg rfl)
            have hbf := hbf.keep (hon.chg (P := fun q => q = o) rfl) hPB
            have hdq := hdq.keep (hon.chg (P := fun q => q = o) rfl) hPD
            have hsl := hsl.chg (hon.chg (P := fun q => q = o) rfl) hslo
            have hC := hC.trans (hon.chg rfl)
            have hsq := hst.q
            obtain ⟨sb, sd, PG, PS, obs, hbg, hsd, hof, hinj⟩ := id hsq
            obtain ⟨hB, ehB⟩ : ∃ z, z = h8 := ⟨_, rfl⟩
            rw [← ehB] at ob
            have hfB : hB = mxs (mxs 4513 ((sidL (S.1 0) ++ preL (S.1 0) n))) (ofA (S.1 0) n n ++ (te3L (S.1 0) n ++ (someL (S.1 0) n ++ accL (S.1 0) n st hf hs ln))) := by rw [ehB, eh8, eh7, eh6, eh5, eh4, eh3, eh2, eh1, ehA5, ehA4, ehA3, ehA2, ehA1]; simp only [someL, mxs_app]; rfl
            refine lv_iconst (v := nI 0) hx hb dX1_digest_145 (by decide) ?_
            refine lv_istore_n (lv' := [(1, .int _), (3, .int _), (4, .null), (2, .int _), (0, .ref _)]) hx hb dX1_digest_146 rfl hl (by decide) rfl (fun ls hl => ?_)
            have L147 : ∀ (fuel : Nat) (k : Nat) (hv : Int64), ln - k < fuel → (k ≤ ln) → (hv = mxs hB (bufL (S.1 4) k)) → ∀ (H : Heap), Ob g o 1 [.ref sta, .ref dq, .ref sl, .ref bf, .long hv] H → BufR g PB (S.1 4) ln bf H → Chg (fun q => q = o) s.heap H → ∀ (locs : List Loc), (∀ q ∈ locs, gLo g ≤ q.base) → ∀ (ls : Array Slot), lv_has ls 5 [(0, .ref o), (1, .int (nI k))] → W p l e (rmL 21 6200 50000) s m args below meth c H locs 6200 50000 (MQ below (Qcg (OpP g F o (q_l S (mxs 4513 (digL (S.1 0) n st hf hs ln (S.1 4)))))) args s 6200 50000 (fre g)) (F0 m 147 ls []) := by
              intro fuel
              induction fuel with
              | zero => intro k hv hfu; exact absurd hfu (Nat.not_lt_zero _)
              | succ fuel ih147 =>
                intro k hv hfu hk hhv H ob hbf hC locs hL ls hl
                refine lv_iload_n hx hb dX1_digest_147 rfl (lv_at hl 1 rfl) ?_
                refine lv_aload_n hx hb dX1_digest_148 rfl (lv_at hl 0 rfl) ?_
                refine r_get (C := RX1) (T := TX1) (N := 5) (ci := 1) X in_X1 rfl 3 (Nat.le_of_ble_eq_true rfl) q284 (fun _ h => h) ob rfl dX1_digest_149 ?_
                refine Cp.callV (v := .int (nI ln)) (ct_J5_length l g PB (S.1 4) ln bf ) X hL hl vb_J5_length q621 (hbf.recv hKV) rfl rfl (Nat.le_of_ble_eq_true rfl) dX1_digest_152 ⟨Nat.le_of_ble_eq_true rfl, Nat.le_of_ble_eq_true rfl⟩ (by omega) (by omega) hbf (fun locs hL => ?_)
                refine n_icmp_ge (tgt := 177) X dX1_digest_155 (by decide) (by omega) (by omega) (fun c_155 => ?_) (fun c_155 => ?_)
                ·
                  refine lv_aload_n hx hb dX1_digest_177 rfl (lv_at hl 0 rfl) ?_
                  refine r_get (C := RX1) (T := TX1) (N := 5) (ci := 1) X in_X1 rfl 4 (Nat.le_of_ble_eq_true rfl) q285 (fun _ h => h) ob rfl dX1_digest_178 ?_
                  have hkl : k = ln := by omega
                  subst hkl
                  exact r_lret X hL dX1_digest_181 (by omega) (by omega) ⟨rfl, congrArg (fun z => some (Value.long z)) (by rw [hhv, hfB]; simp only [digL, mxs_app]), ⟨n, st, _, hf, hs, hback _ _ hC ob⟩, hC.mono (fun q hq y => hFo q y hq)⟩
                ·
                  refine lv_aload_n hx hb dX1_digest_158 rfl (lv_at hl 0 rfl) ?_
                  refine lv_aload_n hx hb dX1_digest_159 rfl (lv_at hl 0 rfl) ?_
                  refine r_get (C := RX1) (T := TX1) (N := 5) (ci := 1) X in_X1 rfl 3 (Nat.le_of_ble_eq_true rfl) q284 (fun _ h => h) ob rfl dX1_digest_160 ?_
                  refine lv_iload_n hx hb dX1_digest_163 rfl (lv_at hl 1 rfl) ?_
                  refine Ct.callV (ct_J5_charAt l g PB (S.1 4) ln bf k (by omega)) X hL hl vb_J5_charAt q1305 (hbf.recv hKV) rfl rfl (Nat.le_of_ble_eq_true rfl) dX1_digest_164 ⟨Nat.le_of_ble_eq_true rfl, Nat.le_of_ble_eq_true rfl⟩ (by omega) (by omega) hbf (fun r H locs hL hp => ?_)
                  obtain ⟨rfl, hHH⟩ := hp
                  subst hHH
                  refine lv_i2l hx hb dX1_digest_167 rfl ?_
                  refine Ct.callV (ct_X1_mix l g o sta dq sl bf hv ((S.1 4 k).toInt64) loo) X hL hl vb_X1_mix q1148 (ob.recv hKV rfl) rfl rfl (Nat.le_of_ble_eq_true rfl) dX1_digest_168 ⟨Nat.le_of_ble_eq_true rfl, Nat.le_of_ble_eq_true rfl⟩ (by omega) (by omega) ob (fun r H locs hL hp => ?_)
                  obtain ⟨rfl, ob, hon⟩ := hp
                  have hbf := hbf.keep (hon.chg (P := fun q => q = o) rfl) hPB
                  have hC := hC.trans (hon.chg rfl)
                  refine lv_iinc (v := nI (k + 1)) (lv' := [(1, .int _), (0, .ref _)]) hx hb dX1_digest_171 hl (k := 1) rfl (nI_iinc _ 1 rfl) (by decide) rfl (fun ls hl => ?_)
                  refine lv_goto (tgt := 147) hx hb dX1_digest_174 (by decide) ?_
                  exact W.widen (by omega) (by omega) (ih147 (k + 1) (31 * hv + (S.1 4 k).toInt64) (by omega) (by omega) (by rw [bufL, mxs_app, ← hhv]; rfl) _ ob hbf hC _ hL ls (lv_sub hl [1, 0] rfl))
            exact W.widen (by omega) (by omega) (L147 (ln + 1) 0 hB (by omega) (by omega) rfl _ ob hbf hC _ hL ls (lv_sub hl [4, 0] rfl))
          ·
            exact absurd c_101 (by decide)
        ·
          have hfv1 : hs = true := sl_t hf1 hz1
          refine r_qld (k := 5) X hsl rfl 1 (nI_cl (by omega) rfl) (nI_nn (by omega) rfl) (by omega) dX1_digest_106 ?_
          rw [show va_rf (fs 1) = .ref w1 from by rw [hz1]; rfl]
          refine lv_astore (lv' := [(4, .ref _), (3, .int _), (2, .int _), (1, .ref _), (0, .ref _)]) hx hb dX1_digest_107 hl (by decide) rfl (fun ls hl => ?_)
          refine lv_aload_n hx hb dX1_digest_109 rfl (lv_at hl 4 rfl) ?_
          refine lv_aload hx hb dX1_digest_110 (lv_at hl 0 rfl) ?_
          refine lv_ifnull hx hb dX1_digest_112 ?_
          refine lv_iconst (v := nI 1) hx hb dX1_digest_115 (by decide) ?_
          refine lv_goto (tgt := 120) hx hb dX1_digest_116 (by decide) ?_
          refine Cp.callS (v := .int (nI 1)) (ct_X1_flag l g true ) X hL hl sb_X1_flag q1178 rfl rfl (Nat.le_of_ble_eq_true rfl) dX1_digest_120 ⟨Nat.le_of_ble_eq_true rfl, Nat.le_of_ble_eq_true rfl⟩ (by omega) (by omega) trivial (fun locs hL => ?_)
          refine lv_i2l hx hb dX1_digest_123 rfl ?_
          refine W.stkL (w :=  (bL hs)) (by rw [hfv1]; decide) ?_
          refine Ct.callV (ct_X1_mix l g o sta dq sl bf h6 (bL hs) loo) X hL hl vb_X1_mix q1148 (ob.recv hKV rfl) rfl rfl (Nat.le_of_ble_eq_true rfl) dX1_digest_124 ⟨Nat.le_of_ble_eq_true rfl, Nat.le_of_ble_eq_true rfl⟩ (by omega) (by omega) ob (fun r H locs hL hp => ?_)
          obtain ⟨rfl, ob, hon⟩ := hp
          obtain ⟨h7, eh7⟩ : ∃ z, z = 31 * h6 + (bL hs) := ⟨_, rfl⟩
          rw [← eh7] at ob
          have hst := hst.keep (hon.chg rfl)
          have hbf := hbf.keep (hon.chg (P := fun q => q = o) rfl) hPB
          have hdq := hdq.keep (hon.chg (P := fun q => q = o) rfl) hPD
          have hsl := hsl.chg (hon.chg (P := fun q => q = o) rfl) hslo
          have hC := hC.trans (hon.chg rfl)
          have hsq := hst.q
          obtain ⟨sb, sd, PG, PS, obs, hbg, hsd, hof, hinj⟩ := id hsq
          refine lv_iinc (v := nI (2)) (lv' := [(3, .int _), (4, .ref _), (2, .int _), (1, .ref _), (0, .ref _)]) hx hb dX1_digest_127 hl (k := 1) rfl (nI_iinc _ 1 rfl) (by decide) rfl (fun ls hl => ?_)
          refine lv_goto (tgt := 99) hx hb dX1_digest_130 (by decide) ?_
          refine lv_iload_n hx hb dX1_digest_99 rfl (lv_at hl 0 rfl) ?_
          refine lv_iload_n hx hb dX1_digest_100 rfl (lv_at hl 2 rfl) ?_
          refine n_icmp_ge (tgt := 133) X dX1_digest_101 (by decide) (by omega) (by omega) (fun c_101 => ?_) (fun c_101 => ?_)
          ·
            refine lv_aload_n hx hb dX1_digest_133 rfl (lv_at hl 4 rfl) ?_
            refine lv_aload_n hx hb dX1_digest_134 rfl (lv_at hl 4 rfl) ?_
            refine r_get (C := RX1) (T := TX1) (N := 5) (ci := 1) X in_X1 rfl 3 (Nat.le_of_ble_eq_true rfl) q284 (fun _ h => h) ob rfl dX1_digest_135 ?_
            refine Cp.callV (v := .int (nI ln)) (ct_J5_length l g PB (S.1 4) ln bf ) X hL hl vb_J5_length q621 (hbf.recv hKV) rfl rfl (Nat.le_of_ble_eq_true rfl) dX1_digest_138 ⟨Nat.le_of_ble_eq_true rfl, Nat.le_of_ble_eq_true rfl⟩ (by omega) (by omega) hbf (fun locs hL => ?_)
            refine lv_i2l hx hb dX1_digest_141 rfl ?_
            refine Ct.callV (ct_X1_mix l g o sta dq sl bf h7 ((nI ln).toInt64) loo) X hL hl vb_X1_mix q1148 (ob.recv hKV rfl) rfl rfl (Nat.le_of_ble_eq_true rfl) dX1_digest_142 ⟨Nat.le_of_ble_eq_true rfl, Nat.le_of_ble_eq_true rfl⟩ (by omega) (by omega) ob (fun r H locs hL hp => ?_)
            obtain ⟨rfl, ob, hon⟩ := hp
            obtain ⟨h8, eh8⟩ : ∃ z, z = 31 * h7 + ((nI ln).toInt64) := ⟨_, rfl⟩
            rw [← eh8] at ob
            have hst := hst.keep (hon.chg rfl)
            have hbf := hbf.keep (hon.chg (P := fun q => q = o) rfl) hPB
            have hdq := hdq.keep (hon.chg (P := fun q => q = o) rfl) hPD
            have hsl := hsl.chg (hon.chg (P := fun q => q = o) rfl) hslo
            have hC := hC.trans (hon.chg rfl)
            have hsq := hst.q
            obtain ⟨sb, sd, PG, PS, obs, hbg, hsd, hof, hinj⟩ := id hsq
            obtain ⟨hB, ehB⟩ : ∃ z, z = h8 := ⟨_, rfl⟩
            rw [← ehB] at ob
            have hfB : hB = mxs (mxs 4513 ((sidL (S.1 0) ++ preL (S.1 0) n))) (ofA (S.1 0) n n ++ (te3L (S.1 0) n ++ (someL (S.1 0) n ++ accL (S.1 0) n st hf hs ln))) := by rw [ehB, eh8, eh7, eh6, eh5, eh4, eh3, eh2, eh1, ehA5, ehA4, ehA3, ehA2, ehA1]; simp only [someL, mxs_app]; rfl
            refine lv_iconst (v := nI 0) hx hb dX1_digest_145 (by decide) ?_
            refine lv_istore_n (lv' := [(1, .int _), (3, .int _), (4, .ref _), (2, .int _), (0, .ref _)]) hx hb dX1_digest_146 rfl hl (by decide) rfl (fun ls hl => ?_)
            have L147 : ∀ (fuel : Nat) (k : Nat) (hv : Int64), ln - k < fuel → (k ≤ ln) → (hv = mxs hB (bufL (S.1 4) k)) → ∀ (H : Heap), Ob g o 1 [.ref sta, .ref dq, .ref sl, .ref bf, .long hv] H → BufR g PB (S.1 4) ln bf H → Chg (fun q => q = o) s.heap H → ∀ (locs : List Loc), (∀ q ∈ locs, gLo g ≤ q.base) → ∀ (ls : Array Slot), lv_has ls 5 [(0, .ref o), (1, .int (nI k))] → W p l e (rmL 21 6200 50000) s m args below meth c H locs 6200 50000 (MQ below (Qcg (OpP g F o (q_l S (mxs 4513 (digL (S.1 0) n st hf hs ln (S.1 4)))))) args s 6200 50000 (fre g)) (F0 m 147 ls []) := by
              intro fuel
              induction fuel with
              | zero => intro k hv hfu; exact absurd hfu (Nat.not_lt_zero _)
              | succ fuel ih147 =>
                intro k hv hfu hk hhv H ob hbf hC locs hL ls hl
                refine lv_iload_n hx hb dX1_digest_147 rfl (lv_at hl 1 rfl) ?_
                refine lv_aload_n hx hb dX1_digest_148 rfl (lv_at hl 0 rfl) ?_
                refine r_get (C := RX1) (T := TX1) (N := 5) (ci := 1) X in_X1 rfl 3 (Nat.le_of_ble_eq_true rfl) q284 (fun _ h => h) ob rfl dX1_digest_149 ?_
                refine Cp.callV (v := .int (nI ln)) (ct_J5_length l g PB (S.1 4) ln bf ) X hL hl vb_J5_length q621 (hbf.recv hKV) rfl rfl (Nat.le_of_ble_eq_true rfl) dX1_digest_152 ⟨Nat.le_of_ble_eq_true rfl, Nat.le_of_ble_eq_true rfl⟩ (by omega) (by omega) hbf (fun locs hL => ?_)
                refine n_icmp_ge (tgt := 177) X dX1_digest_155 (by decide) (by omega) (by omega) (fun c_155 => ?_) (fun c_155 => ?_)
                ·
                  refine lv_aload_n hx hb dX1_digest_177 rfl (lv_at hl 0 rfl) ?_
                  refine r_get (C := RX1) (T := TX1) (N := 5) (ci := 1) X in_X1 rfl 4 (Nat.le_of_ble_eq_true rfl) q285 (fun _ h => h) ob rfl dX1_digest_178 ?_
                  have hkl : k = ln := by omega
                  subst hkl
                  exact r_lret X hL dX1_digest_181 (by omega) (by omega) ⟨rfl, congrArg (fun z => some (Value.long z)) (by rw [hhv, hfB]; simp only [digL, mxs_app]), ⟨n, st, _, hf, hs, hback _ _ hC ob⟩, hC.mono (fun q hq y => hFo q y hq)⟩
                ·
                  refine lv_aload_n hx hb dX1_digest_158 rfl (lv_at hl 0 rfl) ?_
                  refine lv_aload_n hx hb dX1_digest_159 rfl (lv_at hl 0 rfl) ?_
                  refine r_get (C := RX1) (T := TX1) (N := 5) (ci := 1) X in_X1 rfl 3 (Nat.le_of_ble_eq_true rfl) q284 (fun _ h => h) ob rfl dX1_digest_160 ?_
                  refine lv_iload_n hx hb dX1_digest_163 rfl (lv_at hl 1 rfl) ?_
                  refine Ct.callV (ct_J5_charAt l g PB (S.1 4) ln bf k (by omega)) X hL hl vb_J5_charAt q1305 (hbf.recv hKV) rfl rfl (Nat.le_of_ble_eq_true rfl) dX1_digest_164 ⟨Nat.le_of_ble_eq_true rfl, Nat.le_of_ble_eq_true rfl⟩ (by omega) (by omega) hbf (fun r H locs hL hp => ?_)
                  obtain ⟨rfl, hHH⟩ := hp
                  subst hHH
                  refine lv_i2l hx hb dX1_digest_167 rfl ?_
                  refine Ct.callV (ct_X1_mix l g o sta dq sl bf hv ((S.1 4 k).toInt64) loo) X hL hl vb_X1_mix q1148 (ob.recv hKV rfl) rfl rfl (Nat.le_of_ble_eq_true rfl) dX1_digest_168 ⟨Nat.le_of_ble_eq_true rfl, Nat.le_of_ble_eq_true rfl⟩ (by omega) (by omega) ob (fun r H locs hL hp => ?_)
                  obtain ⟨rfl, ob, hon⟩ := hp
                  have hbf := hbf.keep (hon.chg (P := fun q => q = o) rfl) hPB
                  have hC := hC.trans (hon.chg rfl)
                  refine lv_iinc (v := nI (k + 1)) (lv' := [(1, .int _), (0, .ref _)]) hx hb dX1_digest_171 hl (k := 1) rfl (nI_iinc _ 1 rfl) (by decide) rfl (fun ls hl => ?_)
                  refine lv_goto (tgt := 147) hx hb dX1_digest_174 (by decide) ?_
                  exact W.widen (by omega) (by omega) (ih147 (k + 1) (31 * hv + (S.1 4 k).toInt64) (by omega) (by omega) (by rw [bufL, mxs_app, ← hhv]; rfl) _ ob hbf hC _ hL ls (lv_sub hl [1, 0] rfl))
            exact W.widen (by omega) (by omega) (L147 (ln + 1) 0 hB (by omega) (by omega) rfl _ ob hbf hC _ hL ls (lv_sub hl [4, 0] rfl))
          ·
            exact absurd c_101 (by decide)
    ·
      have hfv0 : hf = true := sl_t hf0 hz0
      refine r_qld (k := 5) X hsl rfl 0 (nI_cl (by omega) rfl) (nI_nn (by omega) rfl) (by omega) dX1_digest_106 ?_
      rw [show va_rf (fs 0) = .ref w0 from by rw [hz0]; rfl]
      refine lv_astore (lv' := [(4, .ref _), (3, .int _), (2, .int _), (1, .ref _), (0, .ref _)]) hx hb dX1_digest_107 hl (by decide) rfl (fun ls hl => ?_)
      refine lv_aload_n hx hb dX1_digest_109 rfl (lv_at hl 4 rfl) ?_
      refine lv_aload hx hb dX1_digest_110 (lv_at hl 0 rfl) ?_
      refine lv_ifnull hx hb dX1_digest_112 ?_
      refine lv_iconst (v := nI 1) hx hb dX1_digest_115 (by decide) ?_
      refine lv_goto (tgt := 120) hx hb dX1_digest_116 (by decide) ?_
      refine Cp.callS (v := .int (nI 1)) (ct_X1_flag l g true ) X hL hl sb_X1_flag q1178 rfl rfl (Nat.le_of_ble_eq_true rfl) dX1_digest_120 ⟨Nat.le_of_ble_eq_true rfl, Nat.le_of_ble_eq_true rfl⟩ (by omega) (by omega) trivial (fun locs hL => ?_)
      refine lv_i2l hx hb dX1_digest_123 rfl ?_
      refine W.stkL (w :=  (bL hf)) (by rw [hfv0]; decide) ?_
      refine Ct.callV (ct_X1_mix l g o sta dq sl bf h5 (bL hf) loo) X hL hl vb_X1_mix q1148 (ob.recv hKV rfl) rfl rfl (Nat.le_of_ble_eq_true rfl) dX1_digest_124 ⟨Nat.le_of_ble_eq_true rfl, Nat.le_of_ble_eq_true rfl⟩ (by omega) (by omega) ob (fun r H locs hL hp => ?_)
      obtain ⟨rfl, ob, hon⟩ := hp
      obtain ⟨h6, eh6⟩ : ∃ z, z = 31 * h5 + (bL hf) := ⟨_, rfl⟩
      rw [← eh6] at ob
      have hst := hst.keep (hon.chg rfl)
      have hbf := hbf.keep (hon.chg (P := fun q => q = o) rfl) hPB
      have hdq := hdq.keep (hon.chg (P := fun q => q = o) rfl) hPD
      have hsl := hsl.chg (hon.chg (P := fun q => q = o) rfl) hslo
      have hC := hC.trans (hon.chg rfl)
      have hsq := hst.q
      obtain ⟨sb, sd, PG, PS, obs, hbg, hsd, hof, hinj⟩ := id hsq
      refine lv_iinc (v := nI (1)) (lv' := [(3, .int _), (4, .ref _), (2, .int _), (1, .ref _), (0, .ref _)]) hx hb dX1_digest_127 hl (k := 1) rfl (nI_iinc _ 1 rfl) (by decide) rfl (fun ls hl => ?_)
      refine lv_goto (tgt := 99) hx hb dX1_digest_130 (by decide) ?_
      refine lv_iload_n hx hb dX1_digest_99 rfl (lv_at hl 0 rfl) ?_
      refine lv_iload_n hx hb dX1_digest_100 rfl (lv_at hl 2 rfl) ?_
      refine n_icmp_ge (tgt := 133) X dX1_digest_101 (by decide) (by omega) (by omega) (fun c_101 => ?_) (fun c_101 => ?_)
      ·
        exact absurd c_101 (by decide)
      ·
        refine lv_aload_n hx hb dX1_digest_104 rfl (lv_at hl 3 rfl) ?_
        refine lv_iload_n hx hb dX1_digest_105 rfl (lv_at hl 0 rfl) ?_
        rcases hz1 : fs 1 with _ | w1
        ·
          have hfv1 : hs = false := hf1.mp hz1
          refine r_qld (k := 5) X hsl rfl 1 (nI_cl (by omega) rfl) (nI_nn (by omega) rfl) (by omega) dX1_digest_106 ?_
          rw [show va_rf (fs 1) = .null from by rw [hz1]; rfl]
          refine lv_astoreN (lv' := [(4, .null), (3, .int _), (2, .int _), (1, .ref _), (0, .ref _)]) hx hb dX1_digest_107 hl (by decide) rfl (fun ls hl => ?_)
          refine lv_aload_n hx hb dX1_digest_109 rfl (lv_at hl 4 rfl) ?_
          refine lv_aloadN hx hb dX1_digest_110 (lv_at hl 0 rfl) ?_
          refine lv_ifnullN (tgt := 119) hx hb dX1_digest_112 (by decide) ?_
          refine lv_iconst (v := nI 0) hx hb dX1_digest_119 (by decide) ?_
          refine Cp.callS (v := .int (nI 0)) (ct_X1_flag l g false ) X hL hl sb_X1_flag q1178 rfl rfl (Nat.le_of_ble_eq_true rfl) dX1_digest_120 ⟨Nat.le_of_ble_eq_true rfl, Nat.le_of_ble_eq_true rfl⟩ (by omega) (by omega) trivial (fun locs hL => ?_)
          refine lv_i2l hx hb dX1_digest_123 rfl ?_
          refine W.stkL (w :=  (bL hs)) (by rw [hfv1]; decide) ?_
          refine Ct.callV (ct_X1_mix l g o sta dq sl bf h6 (bL hs) loo) X hL hl vb_X1_mix q1148 (ob.recv hKV rfl) rfl rfl (Nat.le_of_ble_eq_true rfl) dX1_digest_124 ⟨Nat.le_of_ble_eq_true rfl, Nat.le_of_ble_eq_true rfl⟩ (by omega) (by omega) ob (fun r H locs hL hp => ?_)
          obtain ⟨rfl, ob, hon⟩ := hp
          obtain ⟨h7, eh7⟩ : ∃ z, z = 31 * h6 + (bL hs) := ⟨_, rfl⟩
          rw [← eh7] at ob
          have hst := hst.keep (hon.chg rfl)
          have hbf := hbf.keep (hon.chg (P := fun q => q = o) rfl) hPB
          have hdq := hdq.keep (hon.chg (P := fun q => q = o) rfl) hPD
          have hsl := hsl.chg (hon.chg (P := fun q => q = o) rfl) hslo
          have hC := hC.trans (hon.chg rfl)
          have hsq := hst.q
          obtain ⟨sb, sd, PG, PS, obs, hbg, hsd, hof, hinj⟩ := id hsq
          refine lv_iinc (v := nI (2)) (lv' := [(3, .int _), (4, .null), (2, .int _), (1, .ref _), (0, .ref _)]) hx hb dX1_digest_127 hl (k := 1) rfl (nI_iinc _ 1 rfl) (by decide) rfl (fun ls hl => ?_)
          refine lv_goto (tgt := 99) hx hb dX1_digest_130 (by decide) ?_
          refine lv_iload_n hx hb dX1_digest_99 rfl (lv_at hl 0 rfl) ?_
          refine lv_iload_n hx hb dX1_digest_100 rfl (lv_at hl 2 rfl) ?_
          refine n_icmp_ge (tgt := 133) X dX1_digest_101 (by decide) (by omega) (by omega) (fun c_101 => ?_) (fun c_101 => ?_)
          ·
            refine lv_aload_n hx hb dX1_digest_133 rfl (lv_at hl 4 rfl) ?_
            refine lv_aload_n hx hb dX1_digest_134 rfl (lv_at hl 4 rfl) ?_
            refine r_get (C := RX1) (T := TX1) (N := 5) (ci := 1) X in_X1 rfl 3 (Nat.le_of_ble_eq_true rfl) q284 (fun _ h => h) ob rfl dX1_digest_135 ?_
            refine Cp.callV (v := .int (nI ln)) (ct_J5_length l g PB (S.1 4) ln bf ) X hL hl vb_J5_length q621 (hbf.recv hKV) rfl rfl (Nat.le_of_ble_eq_true rfl) dX1_digest_138 ⟨Nat.le_of_ble_eq_true rfl, Nat.le_of_ble_eq_true rfl⟩ (by omega) (by omega) hbf (fun locs hL => ?_)
            refine lv_i2l hx hb dX1_digest_141 rfl ?_
            refine Ct.callV (ct_X1_mix l g o sta dq sl bf h7 ((nI ln).toInt64) loo) X hL hl vb_X1_mix q1148 (ob.recv hKV rfl) rfl rfl (Nat.le_of_ble_eq_true rfl) dX1_digest_142 ⟨Nat.le_of_ble_eq_true rfl, Nat.le_of_ble_eq_true rfl⟩ (by omega) (by omega) ob (fun r H locs hL hp => ?_)
            obtain ⟨rfl, ob, hon⟩ := hp
            obtain ⟨h8, eh8⟩ : ∃ z, z = 31 * h7 + ((nI ln).toInt64) := ⟨_, rfl⟩
            rw [← eh8] at ob
            have hst := hst.keep (hon.chg rfl)
            have hbf := hbf.keep (hon.chg (P := fun q => q = o) rfl) hPB
            have hdq := hdq.keep (hon.chg (P := fun q => q = o) rfl) hPD
            have hsl := hsl.chg (hon.chg (P := fun q => q = o) rfl) hslo
            have hC := hC.trans (hon.chg rfl)
            have hsq := hst.q
            obtain ⟨sb, sd, PG, PS, obs, hbg, hsd, hof, hinj⟩ := id hsq
            obtain ⟨hB, ehB⟩ : ∃ z, z = h8 := ⟨_, rfl⟩
            rw [← ehB] at ob
            have hfB : hB = mxs (mxs 4513 ((sidL (S.1 0) ++ preL (S.1 0) n))) (ofA (S.1 0) n n ++ (te3L (S.1 0) n ++ (someL (S.1 0) n ++ accL (S.1 0) n st hf hs ln))) := by rw [ehB, eh8, eh7, eh6, eh5, eh4, eh3, eh2, eh1, ehA5, ehA4, ehA3, ehA2, ehA1]; simp only [someL, mxs_app]; rfl
            refine lv_iconst (v := nI 0) hx hb dX1_digest_145 (by decide) ?_
            refine lv_istore_n (lv' := [(1, .int _), (3, .int _), (4, .null), (2, .int _), (0, .ref _)]) hx hb dX1_digest_146 rfl hl (by decide) rfl (fun ls hl => ?_)
            have L147 : ∀ (fuel : Nat) (k : Nat) (hv : Int64), ln - k < fuel → (k ≤ ln) → (hv = mxs hB (bufL (S.1 4) k)) → ∀ (H : Heap), Ob g o 1 [.ref sta, .ref dq, .ref sl, .ref bf, .long hv] H → BufR g PB (S.1 4) ln bf H → Chg (fun q => q = o) s.heap H → ∀ (locs : List Loc), (∀ q ∈ locs, gLo g ≤ q.base) → ∀ (ls : Array Slot), lv_has ls 5 [(0, .ref o), (1, .int (nI k))] → W p l e (rmL 21 6200 50000) s m args below meth c H locs 6200 50000 (MQ below (Qcg (OpP g F o (q_l S (mxs 4513 (digL (S.1 0) n st hf hs ln (S.1 4)))))) args s 6200 50000 (fre g)) (F0 m 147 ls []) := by
              intro fuel
              induction fuel with
              | zero => intro k hv hfu; exact absurd hfu (Nat.not_lt_zero _)
              | succ fuel ih147 =>
                intro k hv hfu hk hhv H ob hbf hC locs hL ls hl
                refine lv_iload_n hx hb dX1_digest_147 rfl (lv_at hl 1 rfl) ?_
                refine lv_aload_n hx hb dX1_digest_148 rfl (lv_at hl 0 rfl) ?_
                refine r_get (C := RX1) (T := TX1) (N := 5) (ci := 1) X in_X1 rfl 3 (Nat.le_of_ble_eq_true rfl) q284 (fun _ h => h) ob rfl dX1_digest_149 ?_
                refine Cp.callV (v := .int (nI ln)) (ct_J5_length l g PB (S.1 4) ln bf ) X hL hl vb_J5_length q621 (hbf.recv hKV) rfl rfl (Nat.le_of_ble_eq_true rfl) dX1_digest_152 ⟨Nat.le_of_ble_eq_true rfl, Nat.le_of_ble_eq_true rfl⟩ (by omega) (by omega) hbf (fun locs hL => ?_)
                refine n_icmp_ge (tgt := 177) X dX1_digest_155 (by decide) (by omega) (by omega) (fun c_155 => ?_) (fun c_155 => ?_)
                ·
                  refine lv_aload_n hx hb dX1_digest_177 rfl (lv_at hl 0 rfl) ?_
                  refine r_get (C := RX1) (T := TX1) (N := 5) (ci := 1) X in_X1 rfl 4 (Nat.le_of_ble_eq_true rfl) q285 (fun _ h => h) ob rfl dX1_digest_178 ?_
                  have hkl : k = ln := by omega
                  subst hkl
                  exact r_lret X hL dX1_digest_181 (by omega) (by omega) ⟨rfl, congrArg (fun z => some (Value.long z)) (by rw [hhv, hfB]; simp only [digL, mxs_app]), ⟨n, st, _, hf, hs, hback _ _ hC ob⟩, hC.mono (fun q hq y => hFo q y hq)⟩
                ·
                  refine lv_aload_n hx hb dX1_digest_158 rfl (lv_at hl 0 rfl) ?_
                  refine lv_aload_n hx hb dX1_digest_159 rfl (lv_at hl 0 rfl) ?_
                  refine r_get (C := RX1) (T := TX1) (N := 5) (ci := 1) X in_X1 rfl 3 (Nat.le_of_ble_eq_true rfl) q284 (fun _ h => h) ob rfl dX1_digest_160 ?_
                  refine lv_iload_n hx hb dX1_digest_163 rfl (lv_at hl 1 rfl) ?_
                  refine Ct.callV (ct_J5_charAt l g PB (S.1 4) ln bf k (by omega)) X hL hl vb_J5_charAt q1305 (hbf.recv hKV) rfl rfl (Nat.le_of_ble_eq_true rfl) dX1_digest_164 ⟨Nat.le_of_ble_eq_true rfl, Nat.le_of_ble_eq_true rfl⟩ (by omega) (by omega) hbf (fun r H locs hL hp => ?_)
                  obtain ⟨rfl, hHH⟩ := hp
                  subst hHH
                  refine lv_i2l hx hb dX1_digest_167 rfl ?_
                  refine Ct.callV (ct_X1_mix l g o sta dq sl bf hv ((S.1 4 k).toInt64) loo) X hL hl vb_X1_mix q1148 (ob.recv hKV rfl) rfl rfl (Nat.le_of_ble_eq_true rfl) dX1_digest_168 ⟨Nat.le_of_ble_eq_true rfl, Nat.le_of_ble_eq_true rfl⟩ (by omega) (by omega) ob (fun r H locs hL hp => ?_)
                  obtain ⟨rfl, ob, hon⟩ := hp
                  have hbf := hbf.keep (hon.chg (P := fun q => q = o) rfl) hPB
                  have hC := hC.trans (hon.chg rfl)
                  refine lv_iinc (v := nI (k + 1)) (lv' := [(1, .int _), (0, .ref _)]) hx hb dX1_digest_171 hl (k := 1) rfl (nI_iinc _ 1 rfl) (by decide) rfl (fun ls hl => ?_)
                  refine lv_goto (tgt := 147) hx hb dX1_digest_174 (by decide) ?_
                  exact W.widen (by omega) (by omega) (ih147 (k + 1) (31 * hv + (S.1 4 k).toInt64) (by omega) (by omega) (by rw [bufL, mxs_app, ← hhv]; rfl) _ ob hbf hC _ hL ls (lv_sub hl [1, 0] rfl))
            exact W.widen (by omega) (by omega) (L147 (ln + 1) 0 hB (by omega) (by omega) rfl _ ob hbf hC _ hL ls (lv_sub hl [4, 0] rfl))
          ·
            exact absurd c_101 (by decide)
        ·
          have hfv1 : hs = true := sl_t hf1 hz1
          refine r_qld (k := 5) X hsl rfl 1 (nI_cl (by omega) rfl) (nI_nn (by omega) rfl) (by omega) dX1_digest_106 ?_
          rw [show va_rf (fs 1) = .ref w1 from by rw [hz1]; rfl]
          refine lv_astore (lv' := [(4, .ref _), (3, .int _), (2, .int _), (1, .ref _), (0, .ref _)]) hx hb dX1_digest_107 hl (by decide) rfl (fun ls hl => ?_)
          refine lv_aload_n hx hb dX1_digest_109 rfl (lv_at hl 4 rfl) ?_
          refine lv_aload hx hb dX1_digest_110 (lv_at hl 0 rfl) ?_
          refine lv_ifnull hx hb dX1_digest_112 ?_
          refine lv_iconst (v := nI 1) hx hb dX1_digest_115 (by decide) ?_
          refine lv_goto (tgt := 120) hx hb dX1_digest_116 (by decide) ?_
          refine Cp.callS (v := .int (nI 1)) (ct_X1_flag l g true ) X hL hl sb_X1_flag q1178 rfl rfl (Nat.le_of_ble_eq_true rfl) dX1_digest_120 ⟨Nat.le_of_ble_eq_true rfl, Nat.le_of_ble_eq_true rfl⟩ (by omega) (by omega) trivial (fun locs hL => ?_)
          refine lv_i2l hx hb dX1_digest_123 rfl ?_
          refine W.stkL (w :=  (bL hs)) (by rw [hfv1]; decide) ?_
          refine Ct.callV (ct_X1_mix l g o sta dq sl bf h6 (bL hs) loo) X hL hl vb_X1_mix q1148 (ob.recv hKV rfl) rfl rfl (Nat.le_of_ble_eq_true rfl) dX1_digest_124 ⟨Nat.le_of_ble_eq_true rfl, Nat.le_of_ble_eq_true rfl⟩ (by omega) (by omega) ob (fun r H locs hL hp => ?_)
          obtain ⟨rfl, ob, hon⟩ := hp
          obtain ⟨h7, eh7⟩ : ∃ z, z = 31 * h6 + (bL hs) := ⟨_, rfl⟩
          rw [← eh7] at ob
          have hst := hst.keep (hon.chg rfl)
          have hbf := hbf.keep (hon.chg (P := fun q => q = o) rfl) hPB
          have hdq := hdq.keep (hon.chg (P := fun q => q = o) rfl) hPD
          have hsl := hsl.chg (hon.chg (P := fun q => q = o) rfl) hslo
          have hC := hC.trans (hon.chg rfl)
          have hsq := hst.q
          obtain ⟨sb, sd, PG, PS, obs, hbg, hsd, hof, hinj⟩ := id hsq
          refine lv_iinc (v := nI (2)) (lv' := [(3, .int _), (4, .ref _), (2, .int _), (1, .ref _), (0, .ref _)]) hx hb dX1_digest_127 hl (k := 1) rfl (nI_iinc _ 1 rfl) (by decide) rfl (fun ls hl => ?_)
          refine lv_goto (tgt := 99) hx hb dX1_digest_130 (by decide) ?_
          refine lv_iload_n hx hb dX1_digest_99 rfl (lv_at hl 0 rfl) ?_
          refine lv_iload_n hx hb dX1_digest_100 rfl (lv_at hl 2 rfl) ?_
          refine n_icmp_ge (tgt := 133) X dX1_digest_101 (by decide) (by omega) (by omega) (fun c_101 => ?_) (fun c_101 => ?_)
          ·
            refine lv_aload_n hx hb dX1_digest_133 rfl (lv_at hl 4 rfl) ?_
            refine lv_aload_n hx hb dX1_digest_134 rfl (lv_at hl 4 rfl) ?_
            refine r_get (C := RX1) (T := TX1) (N := 5) (ci := 1) X in_X1 rfl 3 (Nat.le_of_ble_eq_true rfl) q284 (fun _ h => h) ob rfl dX1_digest_135 ?_
            refine Cp.callV (v := .int (nI ln)) (ct_J5_length l g PB (S.1 4) ln bf ) X hL hl vb_J5_length q621 (hbf.recv hKV) rfl rfl (Nat.le_of_ble_eq_true rfl) dX1_digest_138 ⟨Nat.le_of_ble_eq_true rfl, Nat.le_of_ble_eq_true rfl⟩ (by omega) (by omega) hbf (fun locs hL => ?_)
            refine lv_i2l hx hb dX1_digest_141 rfl ?_
            refine Ct.callV (ct_X1_mix l g o sta dq sl bf h7 ((nI ln).toInt64) loo) X hL hl vb_X1_mix q1148 (ob.recv hKV rfl) rfl rfl (Nat.le_of_ble_eq_true rfl) dX1_digest_142 ⟨Nat.le_of_ble_eq_true rfl, Nat.le_of_ble_eq_true rfl⟩ (by omega) (by omega) ob (fun r H locs hL hp => ?_)
            obtain ⟨rfl, ob, hon⟩ := hp
            obtain ⟨h8, eh8⟩ : ∃ z, z = 31 * h7 + ((nI ln).toInt64) := ⟨_, rfl⟩
            rw [← eh8] at ob
            have hst := hst.keep (hon.chg rfl)
            have hbf := hbf.keep (hon.chg (P := fun q => q = o) rfl) hPB
            have hdq := hdq.keep (hon.chg (P := fun q => q = o) rfl) hPD
            have hsl := hsl.chg (hon.chg (P := fun q => q = o) rfl) hslo
            have hC := hC.trans (hon.chg rfl)
            have hsq := hst.q
            obtain ⟨sb, sd, PG, PS, obs, hbg, hsd, hof, hinj⟩ := id hsq
            obtain ⟨hB, ehB⟩ : ∃ z, z = h8 := ⟨_, rfl⟩
            rw [← ehB] at ob
            have hfB : hB = mxs (mxs 4513 ((sidL (S.1 0) ++ preL (S.1 0) n))) (ofA (S.1 0) n n ++ (te3L (S.1 0) n ++ (someL (S.1 0) n ++ accL (S.1 0) n st hf hs ln))) := by rw [ehB, eh8, eh7, eh6, eh5, eh4, eh3, eh2, eh1, ehA5, ehA4, ehA3, ehA2, ehA1]; simp only [someL, mxs_app]; rfl
            refine lv_iconst (v := nI 0) hx hb dX1_digest_145 (by decide) ?_
            refine lv_istore_n (lv' := [(1, .int _), (3, .int _), (4, .ref _), (2, .int _), (0, .ref _)]) hx hb dX1_digest_146 rfl hl (by decide) rfl (fun ls hl => ?_)
            have L147 : ∀ (fuel : Nat) (k : Nat) (hv : Int64), ln - k < fuel → (k ≤ ln) → (hv = mxs hB (bufL (S.1 4) k)) → ∀ (H : Heap), Ob g o 1 [.ref sta, .ref dq, .ref sl, .ref bf, .long hv] H → BufR g PB (S.1 4) ln bf H → Chg (fun q => q = o) s.heap H → ∀ (locs : List Loc), (∀ q ∈ locs, gLo g ≤ q.base) → ∀ (ls : Array Slot), lv_has ls 5 [(0, .ref o), (1, .int (nI k))] → W p l e (rmL 21 6200 50000) s m args below meth c H locs 6200 50000 (MQ below (Qcg (OpP g F o (q_l S (mxs 4513 (digL (S.1 0) n st hf hs ln (S.1 4)))))) args s 6200 50000 (fre g)) (F0 m 147 ls []) := by
              intro fuel
              induction fuel with
              | zero => intro k hv hfu; exact absurd hfu (Nat.not_lt_zero _)
              | succ fuel ih147 =>
                intro k hv hfu hk hhv H ob hbf hC locs hL ls hl
                refine lv_iload_n hx hb dX1_digest_147 rfl (lv_at hl 1 rfl) ?_
                refine lv_aload_n hx hb dX1_digest_148 rfl (lv_at hl 0 rfl) ?_
                refine r_get (C := RX1) (T := TX1) (N := 5) (ci := 1) X in_X1 rfl 3 (Nat.le_of_ble_eq_true rfl) q284 (fun _ h => h) ob rfl dX1_digest_149 ?_
                refine Cp.callV (v := .int (nI ln)) (ct_J5_length l g PB (S.1 4) ln bf ) X hL hl vb_J5_length q621 (hbf.recv hKV) rfl rfl (Nat.le_of_ble_eq_true rfl) dX1_digest_152 ⟨Nat.le_of_ble_eq_true rfl, Nat.le_of_ble_eq_true rfl⟩ (by omega) (by omega) hbf (fun locs hL => ?_)
                refine n_icmp_ge (tgt := 177) X dX1_digest_155 (by decide) (by omega) (by omega) (fun c_155 => ?_) (fun c_155 => ?_)
                ·
                  refine lv_aload_n hx hb dX1_digest_177 rfl (lv_at hl 0 rfl) ?_
                  refine r_get (C := RX1) (T := TX1) (N := 5) (ci := 1) X in_X1 rfl 4 (Nat.le_of_ble_eq_true rfl) q285 (fun _ h => h) ob rfl dX1_digest_178 ?_
                  have hkl : k = ln := by omega
                  subst hkl
                  exact r_lret X hL dX1_digest_181 (by omega) (by omega) ⟨rfl, congrArg (fun z => some (Value.long z)) (by rw [hhv, hfB]; simp only [digL, mxs_app]), ⟨n, st, _, hf, hs, hback _ _ hC ob⟩, hC.mono (fun q hq y => hFo q y hq)⟩
                ·
                  refine lv_aload_n hx hb dX1_digest_158 rfl (lv_at hl 0 rfl) ?_
                  refine lv_aload_n hx hb dX1_digest_159 rfl (lv_at hl 0 rfl) ?_
                  refine r_get (C := RX1) (T := TX1) (N := 5) (ci := 1) X in_X1 rfl 3 (Nat.le_of_ble_eq_true rfl) q284 (fun _ h => h) ob rfl dX1_digest_160 ?_
                  refine lv_iload_n hx hb dX1_digest_163 rfl (lv_at hl 1 rfl) ?_
                  refine Ct.callV (ct_J5_charAt l g PB (S.1 4) ln bf k (by omega)) X hL hl vb_J5_charAt q1305 (hbf.recv hKV) rfl rfl (Nat.le_of_ble_eq_true rfl) dX1_digest_164 ⟨Nat.le_of_ble_eq_true rfl, Nat.le_of_ble_eq_true rfl⟩ (by omega) (by omega) hbf (fun r H locs hL hp => ?_)
                  obtain ⟨rfl, hHH⟩ := hp
                  subst hHH
                  refine lv_i2l hx hb dX1_digest_167 rfl ?_
                  refine Ct.callV (ct_X1_mix l g o sta dq sl bf hv ((S.1 4 k).toInt64) loo) X hL hl vb_X1_mix q1148 (ob.recv hKV rfl) rfl rfl (Nat.le_of_ble_eq_true rfl) dX1_digest_168 ⟨Nat.le_of_ble_eq_true rfl, Nat.le_of_ble_eq_true rfl⟩ (by omega) (by omega) ob (fun r H locs hL hp => ?_)
                  obtain ⟨rfl, ob, hon⟩ := hp
                  have hbf := hbf.keep (hon.chg (P := fun q => q = o) rfl) hPB
                  have hC := hC.trans (hon.chg rfl)
                  refine lv_iinc (v := nI (k + 1)) (lv' := [(1, .int _), (0, .ref _)]) hx hb dX1_digest_171 hl (k := 1) rfl (nI_iinc _ 1 rfl) (by decide) rfl (fun ls hl => ?_)
                  refine lv_goto (tgt := 147) hx hb dX1_digest_174 (by decide) ?_
                  exact W.widen (by omega) (by omega) (ih147 (k + 1) (31 * hv + (S.1 4 k).toInt64) (by omega) (by omega) (by rw [bufL, mxs_app, ← hhv]; rfl) _ ob hbf hC _ hL ls (lv_sub hl [1, 0] rfl))
            exact W.widen (by omega) (by omega) (L147 (ln + 1) 0 hB (by omega) (by omega) rfl _ ob hbf hC _ hL ls (lv_sub hl [4, 0] rfl))
          ·
            exact absurd c_101 (by decide)
theorem vb_X1_digest : VB yX1_digest cX1_digest 5 (some .long) 0 := ⟨q1140, q1141, q99, q1142, ⟨by decide, by decide, by decide +kernel⟩⟩
