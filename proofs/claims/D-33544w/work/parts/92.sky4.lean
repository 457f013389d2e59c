/-! the OfferSky changed -/
theorem chg_new {P Q : Nat → Prop} {H H1 H2 : Heap} (c : Chg P H H1) (c2 : Chg Q H1 H2) (h : ∀ q, q < H.size → Q q → P q) : Chg P H H2 := ⟨Nat.le_trans c.1 c2.1, fun q hq hn => (c2.2 q (Nat.lt_of_lt_of_le hq c.1) (fun y => hn (h q hq y))).trans (c.2 q hq hn)⟩
theorem StK.ne {g : GT} {K : Nat → Nat} {r : Nat → Int32} {n t z : Nat} {H : Heap} (h : StK g K r n t H) (hz : H.size ≤ z) : t ≠ z := by have := h.facts.2.2.2.1; omega

theorem putP_in {f r : Nat → Int32} {b i : Nat} (hi : i < 179) : putP f r b 179 (b + i) = r i := by
  unfold putP
  rw [if_pos (by omega)]; congr 1; omega
theorem putP_out {f r : Nat → Int32} {b j : Nat} (h : ¬ (b ≤ j ∧ j < b + 179)) : putP f r b 179 j = f j := by unfold putP; rw [if_neg h]
theorem dec_0 {v : Int32} (e : v = nI v.toNatClampNeg) : decide (v = nI 0) = decide (v.toNatClampNeg = 0) := by
  rw [decide_eq_decide]
  exact ⟨fun h => by rw [h]; rfl, fun h => by rw [e, h]⟩
theorem dec_1 {v : Int32} (e : v = nI v.toNatClampNeg) (h1 : v.toNatClampNeg ≤ 1) : decide (v = nI 1) = decide (v.toNatClampNeg = 1) := by
  rw [decide_eq_decide]
  exact ⟨fun h => by rw [h]; rfl, fun h => by rw [e, h]⟩
theorem s_keep_1 {S : MS} {hf hs : Bool} {v : Int32} (h : inB v (nI 0) (nI 1) = false) : s_keep S hf hs v = (1, none, (s_keep S hf hs v).2.2) := by unfold s_keep; rw [h]; rfl
theorem s_keep_0 {S : MS} {hf hs : Bool} {v : Int32} (h : inB v (nI 0) (nI 1) = true) : s_keep S hf hs v = (0, none, uS (uS (uA S 3 (putP (S.1 3) (S.1 0) (179 * v.toNatClampNeg) 179)) 10 (bI (hf || decide (v = nI 0)))) 11 (bI (hs || decide (v = nI 1)))) := by unfold s_keep; rw [h]; rfl
theorem s_keep_sc {S : MS} {hf hs : Bool} {v : Int32} (h : inB v (nI 0) (nI 1) = false) (e1 : S.2.1 10 = bI hf) (e2 : S.2.1 11 = bI hs) : Sc S (s_keep S hf hs v).2.2 := by
  have n0 : ¬ v = nI 0 := fun e => by rw [e] at h; exact absurd h (by decide)
  have n1 : ¬ v = nI 1 := fun e => by rw [e] at h; exact absurd h (by decide)
  unfold s_keep
  refine ⟨rfl, rfl, ?_, rfl, ?_, ?_, rfl, rfl⟩
  · show (if inB v (nI 0) (nI 1) = true then putP (S.1 3) (S.1 0) (179 * v.toNatClampNeg) 179 else S.1 3) = S.1 3
    rw [h]; rfl
  · show bI (hf || decide (v = nI 0)) = S.2.1 10
    rw [decide_eq_false n0, Bool.or_false, e1]
  · show bI (hs || decide (v = nI 1)) = S.2.1 11
    rw [decide_eq_false n1, Bool.or_false, e2]
theorem s_gb_1 {S : MS} {st : Nat} {hf hs : Bool} {v : Int32} (h : inB v (nI 0) (nI 1) = false) : s_goBack S st hf hs v = (1, none, S) := by unfold s_goBack; rw [h]; rfl
theorem gb_fl {hf hs : Bool} {v : Int32} (e : v = nI v.toNatClampNeg) : (if v = 0 then hf else hs) = (if v.toNatClampNeg = 0 then hf else hs) := by
  by_cases q : v.toNatClampNeg = 0
  · rw [if_pos q, if_pos (by rw [e, q]; rfl)]
  · rw [if_neg q, if_neg (fun h => q (by rw [h]; rfl))]
theorem s_gb_2 {S : MS} {st : Nat} {hf hs : Bool} {v : Int32} (h : inB v (nI 0) (nI 1) = true) (e : v = nI v.toNatClampNeg) (_ : v.toNatClampNeg < 2) (hfl : (if v.toNatClampNeg = 0 then hf else hs) = false) : s_goBack S st hf hs v = (2, none, S) := by
  unfold s_goBack; rw [h, if_neg (by decide), gb_fl e, hfl]; rfl
theorem s_gb_0 {S : MS} {st : Nat} {hf hs : Bool} {v : Int32} (h : inB v (nI 0) (nI 1) = true) (e : v = nI v.toNatClampNeg) (_ : v.toNatClampNeg < 2) (hfl : (if v.toNatClampNeg = 0 then hf else hs) = true) : s_goBack S st hf hs v = (0, none, upR S st (setI (S.1 0) 179 (fun j => S.1 3 (179 * v.toNatClampNeg + j)))) := by
  unfold s_goBack; rw [h, if_neg (by decide), gb_fl e, hfl]; rfl
theorem s_ud_1 {S : MS} {st : Nat} (h : st = 0) : s_undo S st = (1, none, S) := by unfold s_undo; rw [if_pos h]
theorem s_ud_0 {S : MS} (s1 : Nat) : s_undo S (s1 + 1) = (0, none, uS (uA S 0 (setI (S.1 0) 179 (fun j => S.1 2 (179 * s1 + j)))) 12 (nI s1)) := by unfold s_undo; rw [if_neg (by omega)]; rfl
section SLOTS
variable {g : GT} {K : Nat → Nat} {fp fk fb : Nat → Int32} {st ln : Nat} {hf hs : Bool} {o sta dq sl bf : Nat} {xs : Nat → Nat} {fs : Nat → Option Nat} {hh : Int64} {H : Heap} {q w : Nat}
theorem slot_no (h : SkB g K fp fk fb st ln hf hs o sta dq sl bf xs fs hh H) (hq : q < 2) (e : fs q = none) : (if q = 0 then hf else hs) = false := by
  have := h.2.2.2.2.2.2 q hq
  cases hfl : (if q = 0 then hf else hs)
  · rfl
  · rw [hfl, if_pos rfl] at this
    obtain ⟨w, m, u, -⟩ := this
    rw [e] at u; cases u
theorem slot_yes (h : SkB g K fp fk fb st ln hf hs o sta dq sl bf xs fs hh H) (hq : q < 2) (e : fs q = some w) : (if q = 0 then hf else hs) = true := by
  have := h.2.2.2.2.2.2 q hq
  cases hfl : (if q = 0 then hf else hs)
  · rw [hfl, if_neg (by decide)] at this
    rw [e] at this; cases this
  · rfl
theorem slot_at (h : SkB g K fp fk fb st ln hf hs o sta dq sl bf xs fs hh H) (hq : q < 2) (e : (if q = 0 then hf else hs) = true) : ∃ w m, fs q = some w ∧ w ≠ sta ∧ (∀ j, j < st → xs j ≠ w) ∧ StK g K (fun i => fk (179 * q + i)) m w H := by
  have := h.2.2.2.2.2.2 q hq
  rw [e, if_pos rfl] at this; exact this
theorem slot_lt (h : SkB g K fp fk fb st ln hf hs o sta dq sl bf xs fs hh H) (hq : q < 2) (e : fs q = some w) : w < H.size := by
  obtain ⟨w2, m, u1, -, -, u4⟩ := slot_at h hq (slot_yes h hq e)
  rw [e] at u1; cases u1; exact u4.facts.2.2.2.1
end SLOTS

set_option maxRecDepth 100000 in
set_option maxHeartbeats 4000000 in
theorem ct_X1_save (l : Launch) (g : GT) (F : Nat → Prop) (S : MS) (n st ln : Nat) (hf hs : Bool) (o : Nat) (K : Nat → Nat) (sta dq sl bf : Nat) (xs : Nat → Nat) (fs : Nat → Option Nat) (hh : Int64)  : Ct l g yX1_save cX1_save 1 none 14 30 260 [.ref o] (SkK g F S n st ln hf hs o K sta dq sl bf xs fs hh) (fun r H H1 => r = none ∧ ∃ K1 xs1, SkK g F (upR S st (S.1 0)) n (recN st + 1) ln hf hs o K1 sta dq sl bf xs1 fs hh H1 ∧ (∀ q, q < H.size → K1 q = K q) ∧ Chg (fun q => K q = 2) H H1) := by
  refine Ct.of (by decide) (Nat.le_of_ble_eq_true rfl) ?_
  intro p e s m args below meth c X hP ls hl
  have hx := X.1
  have hb := X.2.1
  have hKV := X.2.2.2.2.2.2.2.1.1
  have hL : ∀ q ∈ ([] : List Loc), gLo g ≤ q.base := fun _ h => by cases h
  have hl : lv_has ls 1 [(0, .ref o)] := hl
  obtain ⟨hK0, hFs, hB, hS, hJ⟩ := hP
  have hgE := hKV.gE
  have hKorg := hK0
  have hKE : K (gE g) = 0 := hK0 _ (Or.inl hgE)
  obtain ⟨⟨ob, k1, k2, nos, loo, los⟩, hdq, hbf, hsl, hxq, hxi, hsv⟩ := id hB
  have hst6 : st ≤ 6 := by obtain ⟨ar, hd, f, p1, p2, p3, p4, p5, p6, p7, -⟩ := hdq; exact p7
  have hnF : ∀ q, K q ≠ 0 → ¬ F q := fun q hq y => hq (hK0 q (Or.inr y))
  have hC : Chg (fun q => K q = 2) s.heap s.heap := Chg.rfl'
  have hob := ob.lt
  refine lv_aload_n hx hb dX1_save_0 rfl (lv_at hl 0 rfl) ?_
  refine r_get (C := RX1) (T := TX1) (N := 5) (ci := 1) X in_X1 rfl 1 (Nat.le_of_ble_eq_true rfl) q281 (fun _ h => h) ob rfl dX1_save_1 ?_
  refine Cp.callV (v := .int (nI st)) (ct_J3_size l g (fun q => K q = 2) xs st dq ) X hL hl vb_J3_size q305 (hdq.recv hKV) rfl rfl (Nat.le_of_ble_eq_true rfl) dX1_save_4 ⟨Nat.le_of_ble_eq_true rfl, Nat.le_of_ble_eq_true rfl⟩ (by omega) (by omega) hdq (fun locs hL => ?_)
  refine lv_bipush (v := nI 6) hx hb dX1_save_7 (by decide) ?_
  refine n_icmp_ne (tgt := 20) X dX1_save_9 (by decide) (by omega) (by omega) (fun c_9 => ?_) (fun c_9 => ?_)
  ·
    refine lv_aload_n hx hb dX1_save_20 rfl (lv_at hl 0 rfl) ?_
    refine r_get (C := RX1) (T := TX1) (N := 5) (ci := 1) X in_X1 rfl 1 (Nat.le_of_ble_eq_true rfl) q281 (fun _ h => h) ob rfl dX1_save_21 ?_
    refine lv_aload_n hx hb dX1_save_24 rfl (lv_at hl 0 rfl) ?_
    refine r_get (C := RX1) (T := TX1) (N := 5) (ci := 1) X in_X1 rfl 0 (Nat.le_of_ble_eq_true rfl) q280 (fun _ h => h) ob rfl dX1_save_25 ?_
    obtain ⟨z, hz⟩ : ∃ z, s.heap.size = z := ⟨_, rfl⟩
    have hszz : s.heap.size ≤ z := Nat.le_of_eq hz
    have hszl := ob.lt
    obtain ⟨hRO, x, hst⟩ := id hS
    have hsv0 := hsv
    have hx0 := hxq
    refine Ct.callV (ct_X2_twin l g (fun q => K q = 5 + sta) (fun q => K q = 4 ∧ q < z) (S.1 0) n x sta ) X hL hl vb_X2_twin q326 (hst.recv hKV) rfl rfl (Nat.le_of_ble_eq_true rfl) dX1_save_28 ⟨Nat.le_of_ble_eq_true rfl, Nat.le_of_ble_eq_true rfl⟩ (by omega) (by omega) (hst.mono (fun q a _ => a) (fun q a b => ⟨a, by omega⟩)) (fun r H locs hL hp => ?_)
    obtain ⟨t, htw, rfl, hE1⟩ := hp
    rw [hz] at htw
    have htl := htw.lt
    have htz := htw.facts.1
    obtain ⟨K1, ka, kb⟩ : ∃ K1 : Nat → Nat, (∀ q, q < z → K1 q = K q) ∧ ∀ q, z ≤ q → K1 q = 5 + t := ⟨fun q => if q < z then K q else 5 + t, fun q h => if_pos h, fun q h => if_neg (by omega)⟩
    have ht : StK g K1 (S.1 0) n t H := ⟨hRO, x, htw.mono (fun q a b => kb q a) (fun q a b => by show K1 q = 4; rw [ka q a.2]; exact a.1)⟩
    have hre : ∀ q, q < z → K q = K1 q := fun q hq => (ka q hq).symm
    have hB := (hB.re (fun q hq => hre q (by omega))).ext hE1
    have hS := (hS.re (fun q hq => hre q (by omega))).ext hE1
    have ob := ob.ext hE1
    have hC := hC.trans hE1.chg
    obtain ⟨-, hdq, hbf, hsl, hxq, hxi, hsv⟩ := id hB
    have hK1 : ∀ q, (q < gLo g ∨ F q) → K1 q = 0 := fun q hq => by rw [ka q (hq.elim (fun y => by omega) (fun y => by have := hFs q y; omega))]; exact hK0 q hq
    refine Ct.callV (ct_J3_push l g (fun q => K1 q = 2) xs st dq t (by omega) (fun y => by have : K1 t = 2 := y; rw [kb t htz] at this; omega)) X hL hl vb_J3_push q435 (hdq.recv hKV) rfl rfl (Nat.le_of_ble_eq_true rfl) dX1_save_31 ⟨Nat.le_of_ble_eq_true rfl, Nat.le_of_ble_eq_true rfl⟩ (by omega) (by omega) ⟨hdq, by obtain ⟨b1, sd1, S1, -, -, -, -, ot, -⟩ := htw; exact ⟨_, ot⟩⟩ (fun r H locs hL hp => ?_)
    obtain ⟨rfl, hdq, hC1⟩ := hp
    have hne : ∀ q w, q < 2 → fs q = some w → w ≠ t := fun q w hq e y => by
      have := hsv0 q hq
      by_cases hfl : (if q = 0 then hf else hs) = true
      · rw [if_pos hfl] at this; obtain ⟨w2, m2, u1, -, -, u4⟩ := this; rw [e] at u1; cases u1; have := u4.facts.2.2.2.1; omega
      · rw [if_neg hfl] at this; rw [e] at this; cases this
    have hKE1 := hK1 _ (Or.inl hgE)
    have hsz0 := hS.facts.2.2.2.1
    have hB1 := hB.push (fp1 := recP (S.1 2) (S.1 0) st) hC1 hdq ht (by have := hst.lt; omega) (fun j hj y => by obtain ⟨m, hm⟩ := (hx0 j hj).2; have := hm.facts.2.2.2.1; omega) hne (fun i hi => by have := rec_at (f := S.1 2) (r := S.1 0) hst6 hi; rw [show recN st = st from if_neg c_9] at this; exact this.symm) (fun i hi => by have := rec_lo (f := S.1 2) (r := S.1 0) (i := i) hst6 (by rw [show recN st = st from if_neg c_9]; omega); rw [if_neg c_9] at this; exact this.symm) hKE1
    have hS1 := hS.keep hC1 (fun q hq y => by have y : K1 q = 2 := y; omega) (fun q hq y => by have y : K1 q = 2 := y; omega) (fun y => by have y : K1 (gE g) = 2 := y; omega)
    have hfin : SkK g F (upR S st (S.1 0)) n (st + 1) ln hf hs o K1 sta dq sl bf (consN t xs) fs hh H := ⟨hK1, fun q hq => Nat.lt_of_lt_of_le (hFs q hq) (by have := hE1.1; have := hC1.1; omega), hB1, hS1, congrArg (fun u => nI (u + 1)) (if_neg c_9), hJ.2⟩
    have hC := chg_new hC hC1 (fun q hq y => by have y : K1 q = 2 := y; rw [ka q (by omega)] at y; exact y)
    exact r_vret X hL dX1_save_34 (by omega) (by omega) ⟨rfl, K1, _, by rw [show recN st = st from if_neg c_9]; exact hfin, fun q hq => ka q (by omega), hC⟩
  ·
    refine lv_aload_n hx hb dX1_save_12 rfl (lv_at hl 0 rfl) ?_
    refine r_get (C := RX1) (T := TX1) (N := 5) (ci := 1) X in_X1 rfl 1 (Nat.le_of_ble_eq_true rfl) q281 (fun _ h => h) ob rfl dX1_save_13 ?_
    have hst5 : 0 < st := by omega
    refine Ct.callV (ct_J3_removeLast l g (fun q => K q = 2) xs st dq hst5) X hL hl vb_J3_removeLast q312 (hdq.recv hKV) rfl rfl (Nat.le_of_ble_eq_true rfl) dX1_save_16 ⟨Nat.le_of_ble_eq_true rfl, Nat.le_of_ble_eq_true rfl⟩ (by omega) (by omega) hdq (fun r H locs hL hp => ?_)
    obtain ⟨rfl, hdq, hC1⟩ := hp
    have hC := hC.trans hC1
    rw [c_9] at hdq hB
    have hB := hB.popL hC1 hdq hKE
    have hS := hS.keep hC1 (fun q hq y => by have y : K q = 2 := y; omega) (fun q hq y => by have y : K q = 2 := y; omega) (fun y => by have y : K (gE g) = 2 := y; omega)
    have hFs : ∀ q, F q → q < H.size := fun q hq => Nat.lt_of_lt_of_le (hFs q hq) hC1.1
    obtain ⟨⟨ob, k1, k2, nos, loo, los⟩, hdq, hbf, hsl, hxq, hxi, hsv⟩ := id hB
    refine lv_pop hx hb dX1_save_19 rfl ?_
    refine lv_aload_n hx hb dX1_save_20 rfl (lv_at hl 0 rfl) ?_
    refine r_get (C := RX1) (T := TX1) (N := 5) (ci := 1) X in_X1 rfl 1 (Nat.le_of_ble_eq_true rfl) q281 (fun _ h => h) ob rfl dX1_save_21 ?_
    refine lv_aload_n hx hb dX1_save_24 rfl (lv_at hl 0 rfl) ?_
    refine r_get (C := RX1) (T := TX1) (N := 5) (ci := 1) X in_X1 rfl 0 (Nat.le_of_ble_eq_true rfl) q280 (fun _ h => h) ob rfl dX1_save_25 ?_
    obtain ⟨z, hz⟩ : ∃ z, H.size = z := ⟨_, rfl⟩
    have hszz : s.heap.size ≤ z := by rw [← hz]; exact hC.1
    have hszl := ob.lt
    obtain ⟨hRO, x, hst⟩ := id hS
    have hsv0 := hsv
    have hx0 := hxq
    refine Ct.callV (ct_X2_twin l g (fun q => K q = 5 + sta) (fun q => K q = 4 ∧ q < z) (S.1 0) n x sta ) X hL hl vb_X2_twin q326 (hst.recv hKV) rfl rfl (Nat.le_of_ble_eq_true rfl) dX1_save_28 ⟨Nat.le_of_ble_eq_true rfl, Nat.le_of_ble_eq_true rfl⟩ (by omega) (by omega) (hst.mono (fun q a _ => a) (fun q a b => ⟨a, by omega⟩)) (fun r H locs hL hp => ?_)
    obtain ⟨t, htw, rfl, hE1⟩ := hp
    rw [hz] at htw
    have htl := htw.lt
    have htz := htw.facts.1
    obtain ⟨K1, ka, kb⟩ : ∃ K1 : Nat → Nat, (∀ q, q < z → K1 q = K q) ∧ ∀ q, z ≤ q → K1 q = 5 + t := ⟨fun q => if q < z then K q else 5 + t, fun q h => if_pos h, fun q h => if_neg (by omega)⟩
    have ht : StK g K1 (S.1 0) n t H := ⟨hRO, x, htw.mono (fun q a b => kb q a) (fun q a b => by show K1 q = 4; rw [ka q a.2]; exact a.1)⟩
    have hre : ∀ q, q < z → K q = K1 q := fun q hq => (ka q hq).symm
    have hB := (hB.re (fun q hq => hre q (by omega))).ext hE1
    have hS := (hS.re (fun q hq => hre q (by omega))).ext hE1
    have ob := ob.ext hE1
    have hC := hC.trans hE1.chg
    obtain ⟨-, hdq, hbf, hsl, hxq, hxi, hsv⟩ := id hB
    have hK1 : ∀ q, (q < gLo g ∨ F q) → K1 q = 0 := fun q hq => by rw [ka q (hq.elim (fun y => by omega) (fun y => by have := hFs q y; omega))]; exact hK0 q hq
    refine Ct.callV (ct_J3_push l g (fun q => K1 q = 2) xs 5 dq t (by omega) (fun y => by have : K1 t = 2 := y; rw [kb t htz] at this; omega)) X hL hl vb_J3_push q435 (hdq.recv hKV) rfl rfl (Nat.le_of_ble_eq_true rfl) dX1_save_31 ⟨Nat.le_of_ble_eq_true rfl, Nat.le_of_ble_eq_true rfl⟩ (by omega) (by omega) ⟨hdq, by obtain ⟨b1, sd1, S1, -, -, -, -, ot, -⟩ := htw; exact ⟨_, ot⟩⟩ (fun r H locs hL hp => ?_)
    obtain ⟨rfl, hdq, hC1⟩ := hp
    have hne : ∀ q w, q < 2 → fs q = some w → w ≠ t := fun q w hq e y => by
      have := hsv0 q hq
      by_cases hfl : (if q = 0 then hf else hs) = true
      · rw [if_pos hfl] at this; obtain ⟨w2, m2, u1, -, -, u4⟩ := this; rw [e] at u1; cases u1; have := u4.facts.2.2.2.1; omega
      · rw [if_neg hfl] at this; rw [e] at this; cases this
    have hKE1 := hK1 _ (Or.inl hgE)
    have hsz0 := hS.facts.2.2.2.1
    have hB1 := hB.push (fp1 := recP (S.1 2) (S.1 0) st) hC1 hdq ht (by have := hst.lt; omega) (fun j hj y => by obtain ⟨m, hm⟩ := (hx0 j hj).2; have := hm.facts.2.2.2.1; omega) hne (fun i hi => by have := rec_at (f := S.1 2) (r := S.1 0) hst6 hi; rw [show recN st = 5 from if_pos c_9] at this; exact this.symm) (fun i hi => by have := rec_lo (f := S.1 2) (r := S.1 0) (i := i) hst6 (by rw [show recN st = 5 from if_pos c_9]; omega); rw [if_pos c_9] at this; exact this.symm) hKE1
    have hS1 := hS.keep hC1 (fun q hq y => by have y : K1 q = 2 := y; omega) (fun q hq y => by have y : K1 q = 2 := y; omega) (fun y => by have y : K1 (gE g) = 2 := y; omega)
    have hfin : SkK g F (upR S st (S.1 0)) n (5 + 1) ln hf hs o K1 sta dq sl bf (consN t xs) fs hh H := ⟨hK1, fun q hq => Nat.lt_of_lt_of_le (hFs q hq) (by have := hE1.1; have := hC1.1; omega), hB1, hS1, congrArg (fun u => nI (u + 1)) (if_pos c_9), hJ.2⟩
    have hC := chg_new hC hC1 (fun q hq y => by have y : K1 q = 2 := y; rw [ka q (by omega)] at y; exact y)
    exact r_vret X hL dX1_save_34 (by omega) (by omega) ⟨rfl, K1, _, by rw [show recN st = 5 from if_pos c_9]; exact hfin, fun q hq => ka q (by omega), hC⟩
theorem vb_X1_save : VB yX1_save cX1_save 1 none 0 := ⟨q303, qs0, q99, q304, ⟨by decide, by decide, by decide +kernel⟩⟩

set_option maxRecDepth 100000 in
set_option maxHeartbeats 4000000 in
theorem ct_X1_add (l : Launch) (g : GT) (F : Nat → Prop) (S : MS) (n st ln : Nat) (hf hs : Bool) (o : Nat) (a b q t : Int32) (hl0 : l.stackTraces = false) : Ce l g yX1_add cX1_add 5 (some .int) 15 36 390 [.ref o, .int a, .int b, .int q, .int t] (SkR g F S n st ln hf hs o) (OpP g F o (s_add S n st a b q t)) (OpX g F o "java/lang/IllegalArgumentException" "java/lang/IllegalStateException" (s_add S n st a b q t)) := by
  refine Ce.of (by decide) (Nat.le_of_ble_eq_true rfl) ?_
  intro p e s m args below meth c X ht hP ls hl
  have hx := X.1
  have hb := X.2.1
  have hKV := X.2.2.2.2.2.2.2.1.1
  have hL : ∀ q ∈ ([] : List Loc), gLo g ≤ q.base := fun _ h => by cases h
  have hsk := hP
  have hgE := hKV.gE
  obtain ⟨sta, dq, sl, bf, x, hh, PB, PD, xs, fs, ob, hst, hR, hn, hbf, hPB, hdq, hsl, hf0, hf1, loo⟩ := hsk.v
  have hl : lv_has ls 5 [(0, .ref o), (1, .int a), (2, .int b), (3, .int q), (4, .int t)] := hl
  have hC : Chg (fun q => ¬ F q) s.heap s.heap := Chg.rfl'
  refine lv_iload_n hx hb dX1_add_0 rfl (lv_at hl 1 rfl) ?_
  refine lv_iload_n hx hb dX1_add_1 rfl (lv_at hl 2 rfl) ?_
  refine lv_iload_n hx hb dX1_add_2 rfl (lv_at hl 3 rfl) ?_
  refine lv_iload hx hb dX1_add_3 (lv_at hl 4 rfl) ?_
  refine Cp.callS (v := .int (bI (!noVs a b q t))) (ct_X1_areValues l g a b q t ) X hL hl sb_X1_areValues q1316 rfl rfl (Nat.le_of_ble_eq_true rfl) dX1_add_5 ⟨Nat.le_of_ble_eq_true rfl, Nat.le_of_ble_eq_true rfl⟩ (by omega) (by omega) trivial (fun locs hL => ?_)
  refine Ce.callS (ct_X1_require l g hl0 (!noVs a b q t) ) X ht hL hl sb_X1_require q1323 rfl rfl (Nat.le_of_ble_eq_true rfl) dX1_add_8 ⟨Nat.le_of_ble_eq_true rfl, Nat.le_of_ble_eq_true rfl⟩ (by omega) (by omega) trivial (fun E1 H1 hx => OpX.x1 (s_add_1 (not_t hx.2.1)) hx.1 (hsk.ext hx.2.2).x (hC.trans hx.2.2.chg)) (fun r H locs hL hp => ?_)
  obtain ⟨rfl, hHH, hc⟩ := hp
  subst hHH
  have hnv : noVs a b q t = false := not_f hc
  refine lv_aload_n hx hb dX1_add_11 rfl (lv_at hl 0 rfl) ?_
  refine r_get (C := RX1) (T := TX1) (N := 5) (ci := 1) X in_X1 rfl 0 (Nat.le_of_ble_eq_true rfl) q280 (fun _ h => h) ob rfl dX1_add_12 ?_
  refine Cp.callV (v := .int (bI (decide (n < 40)))) (ct_X2_hasRoom l g (S.1 0) n x sta hn) X hL hl vb_X2_hasRoom q1337 (hst.recv hKV) rfl rfl (Nat.le_of_ble_eq_true rfl) dX1_add_15 ⟨Nat.le_of_ble_eq_true rfl, Nat.le_of_ble_eq_true rfl⟩ (by omega) (by omega) hst (fun locs hL => ?_)
  refine Ce.callS (ct_X1_requireState l g hl0 (decide (n < 40)) ) X ht hL hl sb_X1_requireState q1341 rfl rfl (Nat.le_of_ble_eq_true rfl) dX1_add_18 ⟨Nat.le_of_ble_eq_true rfl, Nat.le_of_ble_eq_true rfl⟩ (by omega) (by omega) trivial (fun E1 H1 hx => OpX.x2 (s_add_2 hnv (by have := of_decide_eq_false hx.2.1; omega)) hx.1 (hsk.ext hx.2.2).x (hC.trans hx.2.2.chg)) (fun r H locs hL hp => ?_)
  obtain ⟨rfl, hHH, hc2⟩ := hp
  subst hHH
  have hn40 := of_decide_eq_true hc2
  refine lv_aload_n hx hb dX1_add_21 rfl (lv_at hl 0 rfl) ?_
  obtain ⟨Ko, sta, dq, sl, bf, xs, fs, hh, hKo⟩ := id hsk
  have hKo0 := hKo.1
  obtain ⟨⟨⟨ob, -⟩, -⟩, -⟩ := hKo.2.2
  refine Ct.callV (ct_X1_save l g F S n st ln hf hs o Ko sta dq sl bf xs fs hh ) X hL hl vb_X1_save q301 (ob.recv hKV rfl) rfl rfl (Nat.le_of_ble_eq_true rfl) dX1_add_22 ⟨Nat.le_of_ble_eq_true rfl, Nat.le_of_ble_eq_true rfl⟩ (by omega) (by omega) hKo (fun r H locs hL hp => ?_)
  obtain ⟨rfl, K, xs, ⟨hK0, hFs, hB, hS, hJ⟩, hKK, hC1⟩ := hp
  have hC := hC.trans (hC1.mono (fun q hq y => by have hq : Ko q = 2 := hq; have := hKo0 q (Or.inr y); omega))
  obtain ⟨Hz, hHz⟩ : ∃ Hz, Hz = H := ⟨_, rfl⟩
  obtain ⟨z, hz⟩ : ∃ z, Hz.size = z := ⟨_, rfl⟩
  have hzH : H.size = z := by rw [← hHz]; exact hz
  have hBz := hB
  have hFz := hFs
  rw [← hHz] at hBz hFz
  have hEz : Ext Hz H := by rw [hHz]; exact Ext.rfl'
  obtain ⟨⟨ob, k1, k2, nos, loo, los⟩, -, -, -, -, -, -⟩ := hB
  have hS0 := hS
  obtain ⟨hRO, x, hst⟩ := hS
  have hRO : RO (S.1 0) n := hRO
  have hst : StR g (fun q => K q = 5 + sta ∧ q < z) (fun q => K q = 4 ∧ q < z) (S.1 0) n x sta H := hst.mono (fun q a b => ⟨a, by omega⟩) (fun q a b => ⟨a, by omega⟩)
  have hn := hst.facts.2.2.2.2.2
  have hlz : gLo g ≤ z := by have := ob.lt; omega
  have hnF : ∀ q, K q ≠ 0 → ¬ F q := fun q hq y => hq (hK0 q (Or.inr y))
  have hxl := fun j hj => (hst.facts.2.2.1 j hj).mem.1.2
  refine lv_aload_n hx hb dX1_add_25 rfl (lv_at hl 0 rfl) ?_
  refine r_get (C := RX1) (T := TX1) (N := 5) (ci := 1) X in_X1 rfl 0 (Nat.le_of_ble_eq_true rfl) q280 (fun _ h => h) ob rfl dX1_add_26 ?_
  obtain ⟨b1, hb1⟩ : ∃ b, H.size = b := ⟨_, rfl⟩
  have sz_b1 : s.heap.size ≤ b1 := by rw [← hb1]; exact hC.1
  have lo_b1 : gLo g ≤ b1 := Nat.le_trans X.2.2.2.2.2.2.2.1.2.1 sz_b1
  have ne_o_b1 : o ≠ b1 := Nat.ne_of_lt (by rw [← hb1]; exact ob.lt)
  refine r_new (C := RX6) (T := TX6) (N := 1) (ci := 5) X in_X6 tyX6 tyX6_ok q1258 q1349 q123 rfl (fs := [.null]) (fun j hj => by rcases j with _ | _ | _ | _ | _ | j <;> first | rfl | omega) (by show _ + 1 ≤ 36; omega) (by show _ + 1 ≤ 390; omega) dX1_add_29 (fun H ha_b1 hE_b1 hz_b1 => ?_)
  rw [hb1] at ha_b1 hz_b1 ⊢
  have ob := ob.ext hE_b1
  have hst := hst.ext hE_b1
  have hC := hC.trans hE_b1.chg
  have hEz := hEz.trans hE_b1
  refine lv_dup hx hb dX1_add_32 rfl ?_
  refine lv_iconst (v := nI 4) hx hb dX1_add_33 (by decide) ?_
  obtain ⟨b2, hb2⟩ : ∃ b, H.size = b := ⟨_, rfl⟩
  have sz_b2 : s.heap.size ≤ b2 := by rw [← hb2]; exact hC.1
  have lo_b2 : gLo g ≤ b2 := Nat.le_trans X.2.2.2.2.2.2.2.1.2.1 sz_b2
  have ne_o_b2 : o ≠ b2 := Nat.ne_of_lt (by rw [← hb2]; exact ob.lt)
  have ne_b1_b2 : b1 ≠ b2 := Nat.ne_of_lt (by rw [← hb2]; exact ha_b1.lt)
  refine r_newa (atype := .int) (k := 0) (ty := .int) X q209 rfl rfl (fun _ _ => rfl) (x := (nI 4)) (N' := 4) (4, .inl (fun _ => 0)) (fun _ => rfl) (nI_pos (by omega)) (nI_clamp (by omega)) (by show 4 * 4 ≤ 536870912; omega) (by show _ + 1 ≤ 36; omega) (by show _ + 4 ≤ 390; omega) dX1_add_34 (fun H ha_b2 hE_b2 hz_b2 => ?_)
  rw [hb2] at ha_b2 hz_b2 ⊢
  have ob := ob.ext hE_b2
  have ha_b1 := ha_b1.ext hE_b2
  have hst := hst.ext hE_b2
  have hC := hC.trans hE_b2.chg
  have ha_b2 : Ar g b2 0 4 (fun _ => 0) H := ha_b2
  have hEz := hEz.trans hE_b2
  refine lv_dup hx hb dX1_add_36 rfl ?_
  refine lv_iconst (v := nI 0) hx hb dX1_add_37 (by decide) ?_
  refine lv_iload_n hx hb dX1_add_38 rfl (lv_at hl 1 rfl) ?_
  refine r_ist X hL ha_b2 lo_b2 0 (nI_cl (by omega) rfl) (nI_nn (by omega) rfl) (by omega) dX1_add_39 (fun H locs hL h1 h2 => ?_)
  have ha_b2 : Ar g b2 0 4 (upd (fun _ => 0) 0 a) H := h1
  have ob := ob.on h2 ne_o_b2
  have ha_b1 := ha_b1.on h2 ne_b1_b2
  have hEz := hEz.on h2 (by omega)
  have hC := hC.trans (h2.chg (fun y => by have := hFz _ y; omega))
  have hst := hst.keep (Q := fun q => q = b2) (h2.chg rfl) (fun q hq y => by have := hq.2; omega) (fun q hq y => by have := hq.2; omega) (by omega)
  refine lv_dup hx hb dX1_add_40 rfl ?_
  refine lv_iconst (v := nI 1) hx hb dX1_add_41 (by decide) ?_
  refine lv_iload_n hx hb dX1_add_42 rfl (lv_at hl 2 rfl) ?_
  refine r_ist X hL ha_b2 lo_b2 1 (nI_cl (by omega) rfl) (nI_nn (by omega) rfl) (by omega) dX1_add_43 (fun H locs hL h1 h2 => ?_)
  have ha_b2 : Ar g b2 0 4 (upd (upd (fun _ => 0) 0 a) 1 b) H := h1
  have ob := ob.on h2 ne_o_b2
  have ha_b1 := ha_b1.on h2 ne_b1_b2
  have hEz := hEz.on h2 (by omega)
  have hC := hC.trans (h2.chg (fun y => by have := hFz _ y; omega))
  have hst := hst.keep (Q := fun q => q = b2) (h2.chg rfl) (fun q hq y => by have := hq.2; omega) (fun q hq y => by have := hq.2; omega) (by omega)
  refine lv_dup hx hb dX1_add_44 rfl ?_
  refine lv_iconst (v := nI 2) hx hb dX1_add_45 (by decide) ?_
  refine lv_iload_n hx hb dX1_add_46 rfl (lv_at hl 3 rfl) ?_
  refine r_ist X hL ha_b2 lo_b2 2 (nI_cl (by omega) rfl) (nI_nn (by omega) rfl) (by omega) dX1_add_47 (fun H locs hL h1 h2 => ?_)
  have ha_b2 : Ar g b2 0 4 (upd (upd (upd (fun _ => 0) 0 a) 1 b) 2 q) H := h1
  have ob := ob.on h2 ne_o_b2
  have ha_b1 := ha_b1.on h2 ne_b1_b2
  have hEz := hEz.on h2 (by omega)
  have hC := hC.trans (h2.chg (fun y => by have := hFz _ y; omega))
  have hst := hst.keep (Q := fun q => q = b2) (h2.chg rfl) (fun q hq y => by have := hq.2; omega) (fun q hq y => by have := hq.2; omega) (by omega)
  refine lv_dup hx hb dX1_add_48 rfl ?_
  refine lv_iconst (v := nI 3) hx hb dX1_add_49 (by decide) ?_
  refine lv_iload hx hb dX1_add_50 (lv_at hl 4 rfl) ?_
  refine r_ist X hL ha_b2 lo_b2 3 (nI_cl (by omega) rfl) (nI_nn (by omega) rfl) (by omega) dX1_add_52 (fun H locs hL h1 h2 => ?_)
  have ha_b2 : Ar g b2 0 4 (upd (upd (upd (upd (fun _ => 0) 0 a) 1 b) 2 q) 3 t) H := h1
  have ob := ob.on h2 ne_o_b2
  have ha_b1 := ha_b1.on h2 ne_b1_b2
  have hEz := hEz.on h2 (by omega)
  have hC := hC.trans (h2.chg (fun y => by have := hFz _ y; omega))
  have hst := hst.keep (Q := fun q => q = b2) (h2.chg rfl) (fun q hq y => by have := hq.2; omega) (fun q hq y => by have := hq.2; omega) (by omega)
  refine Ct.callI (ct_X6_init l g (fun _ => True) b1 b2 lo_b1) X hL hl ib_X6_init q1350 rfl rfl (Nat.le_of_ble_eq_true rfl) dX1_add_53 ⟨Nat.le_of_ble_eq_true rfl, Nat.le_of_ble_eq_true rfl⟩ (by omega) (by omega) ha_b1 (fun r H locs hL hp => ?_)
  obtain ⟨rfl, ha_b1, hon⟩ := hp
  have hEz := hEz.on hon (by omega)
  have hC := hC.trans (hon.chg (fun y => by have := hFz _ y; omega))
  have hst := hst.keep (Q := fun q => q = b1) (hon.chg rfl) (fun q hq y => by have := hq.2; omega) (fun q hq y => by have := hq.2; omega) (by omega)
  have ha_b2 := ha_b2.on hon (Ne.symm ne_b1_b2)
  obtain ⟨K1, ka, kb1, kb2, kc⟩ : ∃ K1 : Nat → Nat, (∀ q, q < z → K1 q = K q) ∧ K1 b1 = 4 ∧ K1 b2 = 4 ∧ ∀ q, z ≤ q → q ≠ b1 → q ≠ b2 → K1 q = 5 + sta := ⟨fun q => if q < z then K q else if q = b1 ∨ q = b2 then 4 else 5 + sta, fun q h => if_pos h, by show (if b1 < z then K b1 else if b1 = b1 ∨ b1 = b2 then 4 else 5 + sta) = 4; rw [if_neg (by omega), if_pos (Or.inl rfl)], by show (if b2 < z then K b2 else if b2 = b1 ∨ b2 = b2 then 4 else 5 + sta) = 4; rw [if_neg (by omega), if_pos (Or.inr rfl)], fun q h h1 h2 => by show (if q < z then K q else if q = b1 ∨ q = b2 then 4 else 5 + sta) = 5 + sta; rw [if_neg (by omega), if_neg (by omega)]⟩
  have hgEz : K1 (gE g) = 0 := by rw [ka _ (by omega)]; exact hK0 _ (Or.inl hgE)
  refine Ct.callV (ct_X2_adds l g (fun q => K1 q = 5 + sta) (fun q => K1 q = 4) (S.1 0) n x sta (amI a b q t) b1 (fun q h1 h2 => by have h1 : K1 q = 4 := h1; have h2 : K1 q = 5 + sta := h2; omega) (fun h => by have h : K1 (gE g) = 5 + sta := h; omega) hn40 (fun j hj y => by have := hxl j hj; omega)) X hL hl vb_X2_adds q1361 (hst.recv hKV) rfl rfl (Nat.le_of_ble_eq_true rfl) dX1_add_56 ⟨Nat.le_of_ble_eq_true rfl, Nat.le_of_ble_eq_true rfl⟩ (by omega) (by omega) ⟨hst.mono (fun q u _ => by show K1 q = 5 + sta; rw [ka q u.2]; exact u.1) (fun q u _ => by show K1 q = 4; rw [ka q u.2]; exact u.1), ⟨b2, kb1, kb2, lo_b1, lo_b2, ha_b1, ha_b2.to (amI_is a b q t)⟩, fun q hq => kc q (by have := hEz.1; omega) (by have := ha_b1.lt; omega) (by have := ha_b2.lt; omega)⟩ (fun r H locs hL hp => ?_)
  obtain ⟨rfl, hst, hC1⟩ := hp
  have hfin := (SkR.put1 hK0 hFz hBz hJ hz ka hEz hC1 (fun q hq => hq) hgE hlz (RO_add hRO hn40 (noVs_in hnv)) hst).sc sc_up
  have hC := hC.trans (hC1.mono (fun q hq y => by have hq : K1 q = 5 + sta := hq; rw [ka q (by have := hFz q y; omega)] at hq; have := hK0 q (Or.inr y); omega))
  exact vx_ret (r_iret X hL rfl rfl dX1_add_59 (by omega) (by omega) (OpP.mk (s_add_0 hnv (by omega)) rfl hfin.x hC))
theorem vb_X1_add : VB yX1_add cX1_add 5 (some .int) 4 := ⟨q1313, q1314, q99, q1315, ⟨by decide, by decide, by decide +kernel⟩⟩

set_option maxRecDepth 100000 in
set_option maxHeartbeats 4000000 in
theorem ct_X1_remove (l : Launch) (g : GT) (F : Nat → Prop) (S : MS) (n st ln : Nat) (hf hs : Bool) (o : Nat) (i : Int32) (hl0 : l.stackTraces = false) : Ce l g yX1_remove cX1_remove 2 (some .int) 15 32 270 [.ref o, .int i] (SkR g F S n st ln hf hs o) (OpP g F o (s_remove S n st i)) (OpX g F o "java/lang/IndexOutOfBoundsException" "" (s_remove S n st i)) := by
  refine Ce.of (by decide) (Nat.le_of_ble_eq_true rfl) ?_
  intro p e s m args below meth c X ht hP ls hl
  have hx := X.1
  have hb := X.2.1
  have hKV := X.2.2.2.2.2.2.2.1.1
  have hL : ∀ q ∈ ([] : List Loc), gLo g ≤ q.base := fun _ h => by cases h
  have hsk := hP
  have hgE := hKV.gE
  obtain ⟨sta, dq, sl, bf, x, hh, PB, PD, xs, fs, ob, hst, hR, hn, hbf, hPB, hdq, hsl, hf0, hf1, loo⟩ := hsk.v
  have hl : lv_has ls 2 [(0, .ref o), (1, .int i)] := hl
  have hC : Chg (fun q => ¬ F q) s.heap s.heap := Chg.rfl'
  refine lv_aload_n hx hb dX1_remove_0 rfl (lv_at hl 0 rfl) ?_
  refine r_get (C := RX1) (T := TX1) (N := 5) (ci := 1) X in_X1 rfl 0 (Nat.le_of_ble_eq_true rfl) q280 (fun _ h => h) ob rfl dX1_remove_1 ?_
  refine lv_iload_n hx hb dX1_remove_4 rfl (lv_at hl 1 rfl) ?_
  refine Cp.callV (v := .int (bI (!noB n i))) (ct_X2_isOffer l g (S.1 0) n x sta i hn) X hL hl vb_X2_isOffer q1375 (hst.recv hKV) rfl rfl (Nat.le_of_ble_eq_true rfl) dX1_remove_5 ⟨Nat.le_of_ble_eq_true rfl, Nat.le_of_ble_eq_true rfl⟩ (by omega) (by omega) hst (fun locs hL => ?_)
  refine Ce.callS (ct_X1_requireIndex l g hl0 (!noB n i) ) X ht hL hl sb_X1_requireIndex q1380 rfl rfl (Nat.le_of_ble_eq_true rfl) dX1_remove_8 ⟨Nat.le_of_ble_eq_true rfl, Nat.le_of_ble_eq_true rfl⟩ (by omega) (by omega) trivial (fun E1 H1 hx => OpX.x1 (s_rem_1 (not_t hx.2.1)) hx.1 (hsk.ext hx.2.2).x (hC.trans hx.2.2.chg)) (fun r H locs hL hp => ?_)
  obtain ⟨rfl, hHH, hc⟩ := hp
  subst hHH
  have hnb : noB n i = false := not_f hc
  obtain ⟨hic, hil⟩ := noB_nat hn hnb
  refine lv_aload_n hx hb dX1_remove_11 rfl (lv_at hl 0 rfl) ?_
  obtain ⟨Ko, sta, dq, sl, bf, xs, fs, hh, hKo⟩ := id hsk
  have hKo0 := hKo.1
  obtain ⟨⟨⟨ob, -⟩, -⟩, -⟩ := hKo.2.2
  refine Ct.callV (ct_X1_save l g F S n st ln hf hs o Ko sta dq sl bf xs fs hh ) X hL hl vb_X1_save q301 (ob.recv hKV rfl) rfl rfl (Nat.le_of_ble_eq_true rfl) dX1_remove_12 ⟨Nat.le_of_ble_eq_true rfl, Nat.le_of_ble_eq_true rfl⟩ (by omega) (by omega) hKo (fun r H locs hL hp => ?_)
  obtain ⟨rfl, K, xs, ⟨hK0, hFs, hB, hS, hJ⟩, hKK, hC1⟩ := hp
  have hC := hC.trans (hC1.mono (fun q hq y => by have hq : Ko q = 2 := hq; have := hKo0 q (Or.inr y); omega))
  obtain ⟨Hz, hHz⟩ : ∃ Hz, Hz = H := ⟨_, rfl⟩
  obtain ⟨z, hz⟩ : ∃ z, Hz.size = z := ⟨_, rfl⟩
  have hzH : H.size = z := by rw [← hHz]; exact hz
  have hBz := hB
  have hFz := hFs
  rw [← hHz] at hBz hFz
  have hEz : Ext Hz H := by rw [hHz]; exact Ext.rfl'
  obtain ⟨⟨ob, k1, k2, nos, loo, los⟩, -, -, -, -, -, -⟩ := hB
  have hS0 := hS
  obtain ⟨hRO, x, hst⟩ := hS
  have hRO : RO (S.1 0) n := hRO
  have hst : StR g (fun q => K q = 5 + sta ∧ q < z) (fun q => K q = 4 ∧ q < z) (S.1 0) n x sta H := hst.mono (fun q a b => ⟨a, by omega⟩) (fun q a b => ⟨a, by omega⟩)
  have hn := hst.facts.2.2.2.2.2
  have hlz : gLo g ≤ z := by have := ob.lt; omega
  have hnF : ∀ q, K q ≠ 0 → ¬ F q := fun q hq y => hq (hK0 q (Or.inr y))
  refine lv_aload_n hx hb dX1_remove_15 rfl (lv_at hl 0 rfl) ?_
  refine r_get (C := RX1) (T := TX1) (N := 5) (ci := 1) X in_X1 rfl 0 (Nat.le_of_ble_eq_true rfl) q280 (fun _ h => h) ob rfl dX1_remove_16 ?_
  refine lv_iload_n hx hb dX1_remove_19 rfl (lv_at hl 1 rfl) ?_
  refine W.stk (w := (nI i.toNatClampNeg)) hic ?_
  refine Ct.callV (ct_X2_removes l g (fun q => K q = 5 + sta ∧ q < z) (fun q => K q = 4 ∧ q < z) (S.1 0) n x sta i.toNatClampNeg (fun q h1 h2 => by have := h1.1; have := h2.1; omega) (fun h => by have := hK0 _ (Or.inl hgE); have := h.1; omega) hil) X hL hl vb_X2_removes q1388 (hst.recv hKV) rfl rfl (Nat.le_of_ble_eq_true rfl) dX1_remove_20 ⟨Nat.le_of_ble_eq_true rfl, Nat.le_of_ble_eq_true rfl⟩ (by omega) (by omega) hst (fun r H locs hL hp => ?_)
  obtain ⟨rfl, hst, hC1⟩ := hp
  have hCs := hC1
  have hC := hC.trans (hC1.mono (fun q hq => hnF q (by have := hq.1; omega)))
  have hfin := (SkR.put0 hK0 hFz hBz hJ hz hEz hCs hgE hlz (RO_del hRO hn hil) hst).sc sc_up
  exact vx_ret (r_iret X hL rfl rfl dX1_remove_23 (by omega) (by omega) (OpP.mk (s_rem_0 hnb) rfl hfin.x hC))
theorem vb_X1_remove : VB yX1_remove cX1_remove 2 (some .int) 1 := ⟨q1372, q1373, q99, q1374, ⟨by decide, by decide, by decide +kernel⟩⟩

set_option maxRecDepth 100000 in
set_option maxHeartbeats 4000000 in
theorem ct_X1_change (l : Launch) (g : GT) (F : Nat → Prop) (S : MS) (n st ln : Nat) (hf hs : Bool) (o : Nat) (i q v : Int32) (hl0 : l.stackTraces = false) : Ce l g yX1_change cX1_change 4 (some .int) 15 35 280 [.ref o, .int i, .int q, .int v] (SkR g F S n st ln hf hs o) (OpP g F o (s_change S n st i q v)) (OpX g F o "java/lang/IndexOutOfBoundsException" "java/lang/IllegalArgumentException" (s_change S n st i q v)) := by
  refine Ce.of (by decide) (Nat.le_of_ble_eq_true rfl) ?_
  intro p e s m args below meth c X ht hP ls hl
  have hx := X.1
  have hb := X.2.1
  have hKV := X.2.2.2.2.2.2.2.1.1
  have hL : ∀ q ∈ ([] : List Loc), gLo g ≤ q.base := fun _ h => by cases h
  have hsk := hP
  have hgE := hKV.gE
  obtain ⟨sta, dq, sl, bf, x, hh, PB, PD, xs, fs, ob, hst, hR, hn, hbf, hPB, hdq, hsl, hf0, hf1, loo⟩ := hsk.v
  have hl : lv_has ls 4 [(0, .ref o), (1, .int i), (2, .int q), (3, .int v)] := hl
  have hC : Chg (fun q => ¬ F q) s.heap s.heap := Chg.rfl'
  refine lv_aload_n hx hb dX1_change_0 rfl (lv_at hl 0 rfl) ?_
  refine lv_iload_n hx hb dX1_change_1 rfl (lv_at hl 1 rfl) ?_
  refine lv_iload_n hx hb dX1_change_2 rfl (lv_at hl 2 rfl) ?_
  refine Cp.callV (v := .int (bI (!(noB n i || noS q)))) (ct_X1_areBoth l g (S.1 0) n x o sta dq sl bf hh i q hn) X hL hl vb_X1_areBoth q1403 (ob.recv hKV rfl) rfl rfl (Nat.le_of_ble_eq_true rfl) dX1_change_3 ⟨Nat.le_of_ble_eq_true rfl, Nat.le_of_ble_eq_true rfl⟩ (by omega) (by omega) ⟨ob, hst⟩ (fun locs hL => ?_)
  refine Ce.callS (ct_X1_requireIndex l g hl0 (!(noB n i || noS q)) ) X ht hL hl sb_X1_requireIndex q1380 rfl rfl (Nat.le_of_ble_eq_true rfl) dX1_change_6 ⟨Nat.le_of_ble_eq_true rfl, Nat.le_of_ble_eq_true rfl⟩ (by omega) (by omega) trivial (fun E1 H1 hx => OpX.x1 (s_chg_1 (not_t hx.2.1)) hx.1 (hsk.ext hx.2.2).x (hC.trans hx.2.2.chg)) (fun r H locs hL hp => ?_)
  obtain ⟨rfl, hHH, hc⟩ := hp
  subst hHH
  have hc : (noB n i || noS q) = false := not_f hc
  obtain ⟨hni, hnq⟩ := Bool.or_eq_false_iff.mp hc
  obtain ⟨hic, hil⟩ := noB_nat hn hni
  obtain ⟨hqc, hql⟩ := noS_nat hnq
  refine lv_iload_n hx hb dX1_change_9 rfl (lv_at hl 3 rfl) ?_
  refine Cp.callS (v := .int (bI (inB v (nI 0) (nI 99)))) (ct_X1_isValue l g v ) X hL hl sb_X1_isValue q1319 rfl rfl (Nat.le_of_ble_eq_true rfl) dX1_change_10 ⟨Nat.le_of_ble_eq_true rfl, Nat.le_of_ble_eq_true rfl⟩ (by omega) (by omega) trivial (fun locs hL => ?_)
  refine Ce.callS (ct_X1_require l g hl0 (inB v (nI 0) (nI 99)) ) X ht hL hl sb_X1_require q1323 rfl rfl (Nat.le_of_ble_eq_true rfl) dX1_change_13 ⟨Nat.le_of_ble_eq_true rfl, Nat.le_of_ble_eq_true rfl⟩ (by omega) (by omega) trivial (fun E1 H1 hx => OpX.x2 (s_chg_2 hc (by unfold noV; rw [hx.2.1]; rfl)) hx.1 (hsk.ext hx.2.2).x (hC.trans hx.2.2.chg)) (fun r H locs hL hp => ?_)
  obtain ⟨rfl, hHH, hv⟩ := hp
  subst hHH
  refine lv_aload_n hx hb dX1_change_16 rfl (lv_at hl 0 rfl) ?_
  obtain ⟨Ko, sta, dq, sl, bf, xs, fs, hh, hKo⟩ := id hsk
  have hKo0 := hKo.1
  obtain ⟨⟨⟨ob, -⟩, -⟩, -⟩ := hKo.2.2
  refine Ct.callV (ct_X1_save l g F S n st ln hf hs o Ko sta dq sl bf xs fs hh ) X hL hl vb_X1_save q301 (ob.recv hKV rfl) rfl rfl (Nat.le_of_ble_eq_true rfl) dX1_change_17 ⟨Nat.le_of_ble_eq_true rfl, Nat.le_of_ble_eq_true rfl⟩ (by omega) (by omega) hKo (fun r H locs hL hp => ?_)
  obtain ⟨rfl, K, xs, ⟨hK0, hFs, hB, hS, hJ⟩, hKK, hC1⟩ := hp
  have hC := hC.trans (hC1.mono (fun q hq y => by have hq : Ko q = 2 := hq; have := hKo0 q (Or.inr y); omega))
  obtain ⟨Hz, hHz⟩ : ∃ Hz, Hz = H := ⟨_, rfl⟩
  obtain ⟨z, hz⟩ : ∃ z, Hz.size = z := ⟨_, rfl⟩
  have hzH : H.size = z := by rw [← hHz]; exact hz
  have hBz := hB
  have hFz := hFs
  rw [← hHz] at hBz hFz
  have hEz : Ext Hz H := by rw [hHz]; exact Ext.rfl'
  obtain ⟨⟨ob, k1, k2, nos, loo, los⟩, -, -, -, -, -, -⟩ := hB
  have hS0 := hS
  obtain ⟨hRO, x, hst⟩ := hS
  have hRO : RO (S.1 0) n := hRO
  have hst : StR g (fun q => K q = 5 + sta ∧ q < z) (fun q => K q = 4 ∧ q < z) (S.1 0) n x sta H := hst.mono (fun q a b => ⟨a, by omega⟩) (fun q a b => ⟨a, by omega⟩)
  have hn := hst.facts.2.2.2.2.2
  have hlz : gLo g ≤ z := by have := ob.lt; omega
  have hnF : ∀ q, K q ≠ 0 → ¬ F q := fun q hq y => hq (hK0 q (Or.inr y))
  refine lv_aload_n hx hb dX1_change_20 rfl (lv_at hl 0 rfl) ?_
  refine r_get (C := RX1) (T := TX1) (N := 5) (ci := 1) X in_X1 rfl 0 (Nat.le_of_ble_eq_true rfl) q280 (fun _ h => h) ob rfl dX1_change_21 ?_
  refine lv_iload_n hx hb dX1_change_24 rfl (lv_at hl 1 rfl) ?_
  refine W.stk (w := (nI i.toNatClampNeg)) hic ?_
  refine lv_iload_n hx hb dX1_change_25 rfl (lv_at hl 2 rfl) ?_
  refine W.stk (w := (nI q.toNatClampNeg)) hqc ?_
  refine lv_iload_n hx hb dX1_change_26 rfl (lv_at hl 3 rfl) ?_
  refine Ct.callV (ct_X2_changes l g (fun q => K q = 5 + sta ∧ q < z) (fun q => K q = 4 ∧ q < z) (S.1 0) n x sta i.toNatClampNeg q.toNatClampNeg v (fun q h1 h2 => by have := h1.1; have := h2.1; omega) (fun h => by have := hK0 _ (Or.inl hgE); have := h.1; omega) hil hql) X hL hl vb_X2_changes q1410 (hst.recv hKV) rfl rfl (Nat.le_of_ble_eq_true rfl) dX1_change_27 ⟨Nat.le_of_ble_eq_true rfl, Nat.le_of_ble_eq_true rfl⟩ (by omega) (by omega) ⟨hst, fun q hq => by have := hq.2; omega⟩ (fun r H locs hL hp => ?_)
  obtain ⟨q2, rfl, hst, hC1⟩ := hp
  rw [hzH] at hst
  obtain ⟨K1, ka, kc⟩ : ∃ K1 : Nat → Nat, (∀ q, q < z → K1 q = K q) ∧ ∀ q, z ≤ q → K1 q = 4 := ⟨fun q => if q < z then K q else 4, fun q h => if_pos h, fun q h => if_neg (by omega)⟩
  have hst := hst.mono (P1 := fun q => K1 q = 5 + sta) (I1 := fun q => K1 q = 4) (fun q u _ => by show K1 q = 5 + sta; rw [ka q u.2]; exact u.1) (fun q u _ => u.elim (fun u => by show K1 q = 4; rw [ka q u.2]; exact u.1) (fun u => kc q u))
  have hfin := (SkR.put1 hK0 hFz hBz hJ hz ka hEz hC1 (fun q hq => by rw [ka q hq.2]; exact hq.1) hgE hlz (RO_val hRO hn hil hql hv) hst).sc sc_up
  have hC := hC.trans (hC1.mono (fun q hq => hnF q (by have := hq.1; omega)))
  exact vx_ret (r_iret X hL rfl rfl dX1_change_30 (by omega) (by omega) (OpP.mk (s_chg_0 hc (by unfold noV; rw [hv]; rfl)) rfl hfin.x hC))
theorem vb_X1_change : VB yX1_change cX1_change 4 (some .int) 3 := ⟨q1400, q1401, q99, q1402, ⟨by decide, by decide, by decide +kernel⟩⟩

set_option maxRecDepth 100000 in
set_option maxHeartbeats 4000000 in
theorem ct_X1_prune (l : Launch) (g : GT) (F : Nat → Prop) (S : MS) (n st ln : Nat) (hf hs : Bool) (o : Nat)  : Ct l g yX1_prune cX1_prune 1 (some .int) 20 90 680 [.ref o] (SkR g F S n st ln hf hs o) (OpP g F o (s_prune S n st)) := by
  refine Ct.of (by decide) (Nat.le_of_ble_eq_true rfl) ?_
  intro p e s m args below meth c X hP ls hl
  have hx := X.1
  have hb := X.2.1
  have hKV := X.2.2.2.2.2.2.2.1.1
  have hL : ∀ q ∈ ([] : List Loc), gLo g ≤ q.base := fun _ h => by cases h
  have hsk := hP
  have hgE := hKV.gE
  obtain ⟨sta, dq, sl, bf, x, hh, PB, PD, xs, fs, ob, hst, hR, hn, hbf, hPB, hdq, hsl, hf0, hf1, loo⟩ := hsk.v
  have hl : lv_has ls 1 [(0, .ref o)] := hl
  have hC : Chg (fun q => ¬ F q) s.heap s.heap := Chg.rfl'
  refine lv_aload_n hx hb dX1_prune_0 rfl (lv_at hl 0 rfl) ?_
  obtain ⟨Ko, sta, dq, sl, bf, xs, fs, hh, hKo⟩ := id hsk
  have hKo0 := hKo.1
  obtain ⟨⟨⟨ob, -⟩, -⟩, -⟩ := hKo.2.2
  refine Ct.callV (ct_X1_save l g F S n st ln hf hs o Ko sta dq sl bf xs fs hh ) X hL hl vb_X1_save q301 (ob.recv hKV rfl) rfl rfl (Nat.le_of_ble_eq_true rfl) dX1_prune_1 ⟨Nat.le_of_ble_eq_true rfl, Nat.le_of_ble_eq_true rfl⟩ (by omega) (by omega) hKo (fun r H locs hL hp => ?_)
  obtain ⟨rfl, K, xs, ⟨hK0, hFs, hB, hS, hJ⟩, hKK, hC1⟩ := hp
  have hC := hC.trans (hC1.mono (fun q hq y => by have hq : Ko q = 2 := hq; have := hKo0 q (Or.inr y); omega))
  obtain ⟨Hz, hHz⟩ : ∃ Hz, Hz = H := ⟨_, rfl⟩
  obtain ⟨z, hz⟩ : ∃ z, Hz.size = z := ⟨_, rfl⟩
  have hzH : H.size = z := by rw [← hHz]; exact hz
  have hBz := hB
  have hFz := hFs
  rw [← hHz] at hBz hFz
  have hEz : Ext Hz H := by rw [hHz]; exact Ext.rfl'
  obtain ⟨⟨ob, k1, k2, nos, loo, los⟩, -, -, -, -, -, -⟩ := hB
  have hS0 := hS
  obtain ⟨hRO, x, hst⟩ := hS
  have hRO : RO (S.1 0) n := hRO
  have hst : StR g (fun q => K q = 5 + sta ∧ q < z) (fun q => K q = 4 ∧ q < z) (S.1 0) n x sta H := hst.mono (fun q a b => ⟨a, by omega⟩) (fun q a b => ⟨a, by omega⟩)
  have hn := hst.facts.2.2.2.2.2
  have hlz : gLo g ≤ z := by have := ob.lt; omega
  have hnF : ∀ q, K q ≠ 0 → ¬ F q := fun q hq y => hq (hK0 q (Or.inr y))
  obtain ⟨K1, ka, kc⟩ : ∃ K1 : Nat → Nat, (∀ q, q < z → K1 q = K q) ∧ ∀ q, z ≤ q → K1 q = 5 + sta := ⟨fun q => if q < z then K q else 5 + sta, fun q h => if_pos h, fun q h => if_neg (by omega)⟩
  have hgEz : K1 (gE g) = 0 := by rw [ka _ (by omega)]; exact hK0 _ (Or.inl hgE)
  refine lv_aload_n hx hb dX1_prune_4 rfl (lv_at hl 0 rfl) ?_
  refine r_get (C := RX1) (T := TX1) (N := 5) (ci := 1) X in_X1 rfl 0 (Nat.le_of_ble_eq_true rfl) q280 (fun _ h => h) ob rfl dX1_prune_5 ?_
  refine Ct.callV (ct_X2_prunes l g (fun q => K1 q = 5 + sta) (fun q => K1 q = 4) (S.1 0) n x sta (fun q h1 h2 => by have h1 : K1 q = 4 := h1; have h2 : K1 q = 5 + sta := h2; omega) (fun h => by have h : K1 (gE g) = 5 + sta := h; omega) hRO.w) X hL hl vb_X2_prunes q523 (hst.recv hKV) rfl rfl (Nat.le_of_ble_eq_true rfl) dX1_prune_8 ⟨Nat.le_of_ble_eq_true rfl, Nat.le_of_ble_eq_true rfl⟩ (by omega) (by omega) ⟨hst.mono (fun q u _ => by show K1 q = 5 + sta; rw [ka q u.2]; exact u.1) (fun q u _ => by show K1 q = 4; rw [ka q u.2]; exact u.1), fun q hq => kc q (by omega)⟩ (fun r H locs hL hp => ?_)
  obtain ⟨rfl, hst, hC1⟩ := hp
  have hfin := (SkR.put1 hK0 hFz hBz hJ hz ka hEz hC1 (fun q hq => hq) hgE hlz (RO_pr _ hRO hn) hst).sc sc_up
  have hC := hC.trans (hC1.mono (fun q hq y => by have hq : K1 q = 5 + sta := hq; rw [ka q (by have := hFz q y; omega)] at hq; have := hK0 q (Or.inr y); omega))
  exact r_iret X hL rfl rfl dX1_prune_11 (by omega) (by omega) (OpP.mk rfl rfl hfin.x hC)
theorem vb_X1_prune : VB yX1_prune cX1_prune 1 (some .int) 0 := ⟨q298, q299, q99, q300, ⟨by decide, by decide, by decide +kernel⟩⟩

set_option maxRecDepth 100000 in
set_option maxHeartbeats 4000000 in
theorem ct_X1_setWish (l : Launch) (g : GT) (F : Nat → Prop) (S : MS) (n st ln : Nat) (hf hs : Bool) (o : Nat) (q v : Int32) (hl0 : l.stackTraces = false) : Ce l g yX1_setWish cX1_setWish 3 (some .int) 15 33 275 [.ref o, .int q, .int v] (SkR g F S n st ln hf hs o) (OpP g F o (s_set 161 (!inB v (nI 0) (nI 2)) S st q v)) (OpX g F o "java/lang/IndexOutOfBoundsException" "java/lang/IllegalArgumentException" (s_set 161 (!inB v (nI 0) (nI 2)) S st q v)) := by
  refine Ce.of (by decide) (Nat.le_of_ble_eq_true rfl) ?_
  intro p e s m args below meth c X ht hP ls hl
  have hx := X.1
  have hb := X.2.1
  have hKV := X.2.2.2.2.2.2.2.1.1
  have hL : ∀ q ∈ ([] : List Loc), gLo g ≤ q.base := fun _ h => by cases h
  have hsk := hP
  have hgE := hKV.gE
  obtain ⟨sta, dq, sl, bf, x, hh, PB, PD, xs, fs, ob, hst, hR, hn, hbf, hPB, hdq, hsl, hf0, hf1, loo⟩ := hsk.v
  have hl : lv_has ls 3 [(0, .ref o), (1, .int q), (2, .int v)] := hl
  have hC : Chg (fun q => ¬ F q) s.heap s.heap := Chg.rfl'
  refine lv_iload_n hx hb dX1_setWish_0 rfl (lv_at hl 1 rfl) ?_
  refine Cp.callS (v := .int (bI (inB q (nI 0) (nI 3)))) (ct_X1_isSide l g q ) X hL hl sb_X1_isSide q1407 rfl rfl (Nat.le_of_ble_eq_true rfl) dX1_setWish_1 ⟨Nat.le_of_ble_eq_true rfl, Nat.le_of_ble_eq_true rfl⟩ (by omega) (by omega) trivial (fun locs hL => ?_)
  refine Ce.callS (ct_X1_requireIndex l g hl0 (inB q (nI 0) (nI 3)) ) X ht hL hl sb_X1_requireIndex q1380 rfl rfl (Nat.le_of_ble_eq_true rfl) dX1_setWish_4 ⟨Nat.le_of_ble_eq_true rfl, Nat.le_of_ble_eq_true rfl⟩ (by omega) (by omega) trivial (fun E1 H1 hx => OpX.x1 (s_set_1 (by unfold noS; rw [hx.2.1]; rfl)) hx.1 (hsk.ext hx.2.2).x (hC.trans hx.2.2.chg)) (fun r H locs hL hp => ?_)
  obtain ⟨rfl, hHH, hc⟩ := hp
  subst hHH
  have hnq : noS q = false := by unfold noS; rw [hc]; rfl
  obtain ⟨hqc, hql⟩ := noS_nat hnq
  refine lv_iload_n hx hb dX1_setWish_7 rfl (lv_at hl 2 rfl) ?_
  refine lv_iconst (v := nI 0) hx hb dX1_setWish_8 (by decide) ?_
  refine lv_iconst (v := nI 2) hx hb dX1_setWish_9 (by decide) ?_
  refine Cp.callS (v := .int (bI (inB v (nI 0) (nI 2)))) (ct_X1_inRange l g v (nI 0) (nI 2) ) X hL hl sb_X1_inRange q1322 rfl rfl (Nat.le_of_ble_eq_true rfl) dX1_setWish_10 ⟨Nat.le_of_ble_eq_true rfl, Nat.le_of_ble_eq_true rfl⟩ (by omega) (by omega) trivial (fun locs hL => ?_)
  refine Ce.callS (ct_X1_require l g hl0 (inB v (nI 0) (nI 2)) ) X ht hL hl sb_X1_require q1323 rfl rfl (Nat.le_of_ble_eq_true rfl) dX1_setWish_13 ⟨Nat.le_of_ble_eq_true rfl, Nat.le_of_ble_eq_true rfl⟩ (by omega) (by omega) trivial (fun E1 H1 hx => OpX.x2 (s_set_2 hnq (by rw [hx.2.1]; rfl)) hx.1 (hsk.ext hx.2.2).x (hC.trans hx.2.2.chg)) (fun r H locs hL hp => ?_)
  obtain ⟨rfl, hHH, hv⟩ := hp
  subst hHH
  refine lv_aload_n hx hb dX1_setWish_16 rfl (lv_at hl 0 rfl) ?_
  obtain ⟨Ko, sta, dq, sl, bf, xs, fs, hh, hKo⟩ := id hsk
  have hKo0 := hKo.1
  obtain ⟨⟨⟨ob, -⟩, -⟩, -⟩ := hKo.2.2
  refine Ct.callV (ct_X1_save l g F S n st ln hf hs o Ko sta dq sl bf xs fs hh ) X hL hl vb_X1_save q301 (ob.recv hKV rfl) rfl rfl (Nat.le_of_ble_eq_true rfl) dX1_setWish_17 ⟨Nat.le_of_ble_eq_true rfl, Nat.le_of_ble_eq_true rfl⟩ (by omega) (by omega) hKo (fun r H locs hL hp => ?_)
  obtain ⟨rfl, K, xs, ⟨hK0, hFs, hB, hS, hJ⟩, hKK, hC1⟩ := hp
  have hC := hC.trans (hC1.mono (fun q hq y => by have hq : Ko q = 2 := hq; have := hKo0 q (Or.inr y); omega))
  obtain ⟨Hz, hHz⟩ : ∃ Hz, Hz = H := ⟨_, rfl⟩
  obtain ⟨z, hz⟩ : ∃ z, Hz.size = z := ⟨_, rfl⟩
  have hzH : H.size = z := by rw [← hHz]; exact hz
  have hBz := hB
  have hFz := hFs
  rw [← hHz] at hBz hFz
  have hEz : Ext Hz H := by rw [hHz]; exact Ext.rfl'
  obtain ⟨⟨ob, k1, k2, nos, loo, los⟩, -, -, -, -, -, -⟩ := hB
  have hS0 := hS
  obtain ⟨hRO, x, hst⟩ := hS
  have hRO : RO (S.1 0) n := hRO
  have hst : StR g (fun q => K q = 5 + sta ∧ q < z) (fun q => K q = 4 ∧ q < z) (S.1 0) n x sta H := hst.mono (fun q a b => ⟨a, by omega⟩) (fun q a b => ⟨a, by omega⟩)
  have hn := hst.facts.2.2.2.2.2
  have hlz : gLo g ≤ z := by have := ob.lt; omega
  have hnF : ∀ q, K q ≠ 0 → ¬ F q := fun q hq y => hq (hK0 q (Or.inr y))
  refine lv_aload_n hx hb dX1_setWish_20 rfl (lv_at hl 0 rfl) ?_
  refine r_get (C := RX1) (T := TX1) (N := 5) (ci := 1) X in_X1 rfl 0 (Nat.le_of_ble_eq_true rfl) q280 (fun _ h => h) ob rfl dX1_setWish_21 ?_
  refine lv_iload_n hx hb dX1_setWish_24 rfl (lv_at hl 1 rfl) ?_
  refine W.stk (w := (nI q.toNatClampNeg)) hqc ?_
  refine lv_iload_n hx hb dX1_setWish_25 rfl (lv_at hl 2 rfl) ?_
  refine Ct.callV (ct_X2_wishes l g (fun q => K q = 5 + sta ∧ q < z) (fun q => K q = 4 ∧ q < z) (S.1 0) n x sta q.toNatClampNeg v (fun q h1 h2 => by have := h1.1; have := h2.1; omega) (fun h => by have := hK0 _ (Or.inl hgE); have := h.1; omega) hql) X hL hl vb_X2_wishes q1433 (hst.recv hKV) rfl rfl (Nat.le_of_ble_eq_true rfl) dX1_setWish_26 ⟨Nat.le_of_ble_eq_true rfl, Nat.le_of_ble_eq_true rfl⟩ (by omega) (by omega) hst (fun r H locs hL hp => ?_)
  obtain ⟨rfl, hst, hC1⟩ := hp
  have hCs := hC1
  have hC := hC.trans (hC1.mono (fun q hq => hnF q (by have := hq.1; omega)))
  have hfin := (SkR.put0 hK0 hFz hBz hJ hz hEz hCs hgE hlz (RO_w hRO hn hql hv) hst).sc sc_up
  exact vx_ret (r_iret X hL rfl rfl dX1_setWish_29 (by omega) (by omega) (OpP.mk (s_set_0 hnq (by rw [hv]; rfl)) rfl hfin.x hC))
theorem vb_X1_setWish : VB yX1_setWish cX1_setWish 3 (some .int) 2 := ⟨q1430, q1431, q99, q1432, ⟨by decide, by decide, by decide +kernel⟩⟩

set_option maxRecDepth 100000 in
set_option maxHeartbeats 4000000 in
theorem ct_X1_setBounds (l : Launch) (g : GT) (F : Nat → Prop) (S : MS) (n st ln : Nat) (hf hs : Bool) (o : Nat) (q a b : Int32) (hl0 : l.stackTraces = false) : Ce l g yX1_setBounds cX1_setBounds 4 (some .int) 15 42 415 [.ref o, .int q, .int a, .int b] (SkR g F S n st ln hf hs o) (OpP g F o (s_bounds S n st q a b)) (OpX g F o "java/lang/IndexOutOfBoundsException" "java/lang/IllegalArgumentException" (s_bounds S n st q a b)) := by
  refine Ce.of (by decide) (Nat.le_of_ble_eq_true rfl) ?_
  intro p e s m args below meth c X ht hP ls hl
  have hx := X.1
  have hb := X.2.1
  have hKV := X.2.2.2.2.2.2.2.1.1
  have hL : ∀ q ∈ ([] : List Loc), gLo g ≤ q.base := fun _ h => by cases h
  have hsk := hP
  have hgE := hKV.gE
  obtain ⟨sta, dq, sl, bf, x, hh, PB, PD, xs, fs, ob, hst, hR, hn, hbf, hPB, hdq, hsl, hf0, hf1, loo⟩ := hsk.v
  have hl : lv_has ls 4 [(0, .ref o), (1, .int q), (2, .int a), (3, .int b)] := hl
  have hC : Chg (fun q => ¬ F q) s.heap s.heap := Chg.rfl'
  refine lv_iload_n hx hb dX1_setBounds_0 rfl (lv_at hl 1 rfl) ?_
  refine Cp.callS (v := .int (bI (inB q (nI 0) (nI 3)))) (ct_X1_isSide l g q ) X hL hl sb_X1_isSide q1407 rfl rfl (Nat.le_of_ble_eq_true rfl) dX1_setBounds_1 ⟨Nat.le_of_ble_eq_true rfl, Nat.le_of_ble_eq_true rfl⟩ (by omega) (by omega) trivial (fun locs hL => ?_)
  refine Ce.callS (ct_X1_requireIndex l g hl0 (inB q (nI 0) (nI 3)) ) X ht hL hl sb_X1_requireIndex q1380 rfl rfl (Nat.le_of_ble_eq_true rfl) dX1_setBounds_4 ⟨Nat.le_of_ble_eq_true rfl, Nat.le_of_ble_eq_true rfl⟩ (by omega) (by omega) trivial (fun E1 H1 hx => OpX.x1 (s_bnd_1 (by unfold noS; rw [hx.2.1]; rfl)) hx.1 (hsk.ext hx.2.2).x (hC.trans hx.2.2.chg)) (fun r H locs hL hp => ?_)
  obtain ⟨rfl, hHH, hc⟩ := hp
  subst hHH
  have hnq : noS q = false := by unfold noS; rw [hc]; rfl
  obtain ⟨hqc, hql⟩ := noS_nat hnq
  refine lv_iload_n hx hb dX1_setBounds_7 rfl (lv_at hl 2 rfl) ?_
  refine Cp.callS (v := .int (bI (inB a (nI 0) (nI 99)))) (ct_X1_isValue l g a ) X hL hl sb_X1_isValue q1319 rfl rfl (Nat.le_of_ble_eq_true rfl) dX1_setBounds_8 ⟨Nat.le_of_ble_eq_true rfl, Nat.le_of_ble_eq_true rfl⟩ (by omega) (by omega) trivial (fun locs hL => ?_)
  refine b_ifeq (tgt := 28) X dX1_setBounds_11 (by decide) (fun c_11 => ?_) (fun c_11 => ?_)
  ·
    refine lv_iconst (v := nI 0) hx hb dX1_setBounds_28 (by decide) ?_
    refine Ce.callS (ct_X1_require l g hl0 false ) X ht hL hl sb_X1_require q1323 rfl rfl (Nat.le_of_ble_eq_true rfl) dX1_setBounds_29 ⟨Nat.le_of_ble_eq_true rfl, Nat.le_of_ble_eq_true rfl⟩ (by omega) (by omega) trivial (fun E1 H1 hx => OpX.x2 (s_bnd_2 hnq (by unfold noV; rw [c_11]; rfl)) hx.1 (hsk.ext hx.2.2).x (hC.trans hx.2.2.chg)) (fun r H locs hL hp => ?_)
    obtain ⟨rfl, hHH, hv⟩ := hp
    subst hHH
    exact absurd hv (by decide)
  ·
    refine lv_iload_n hx hb dX1_setBounds_14 rfl (lv_at hl 3 rfl) ?_
    refine lv_iload_n hx hb dX1_setBounds_15 rfl (lv_at hl 2 rfl) ?_
    refine lv_bipush (v := nI 99) hx hb dX1_setBounds_16 (by decide) ?_
    refine Cp.callS (v := .int (bI (inB b a (nI 99)))) (ct_X1_inRange l g b a (nI 99) ) X hL hl sb_X1_inRange q1322 rfl rfl (Nat.le_of_ble_eq_true rfl) dX1_setBounds_18 ⟨Nat.le_of_ble_eq_true rfl, Nat.le_of_ble_eq_true rfl⟩ (by omega) (by omega) trivial (fun locs hL => ?_)
    refine b_ifeq (tgt := 28) X dX1_setBounds_21 (by decide) (fun c_21 => ?_) (fun c_21 => ?_)
    ·
      refine lv_iconst (v := nI 0) hx hb dX1_setBounds_28 (by decide) ?_
      refine Ce.callS (ct_X1_require l g hl0 false ) X ht hL hl sb_X1_require q1323 rfl rfl (Nat.le_of_ble_eq_true rfl) dX1_setBounds_29 ⟨Nat.le_of_ble_eq_true rfl, Nat.le_of_ble_eq_true rfl⟩ (by omega) (by omega) trivial (fun E1 H1 hx => OpX.x2 (s_bnd_2 hnq (by rw [c_21]; simp)) hx.1 (hsk.ext hx.2.2).x (hC.trans hx.2.2.chg)) (fun r H locs hL hp => ?_)
      obtain ⟨rfl, hHH, hv⟩ := hp
      subst hHH
      exact absurd hv (by decide)
    ·
      refine lv_iconst (v := nI 1) hx hb dX1_setBounds_24 (by decide) ?_
      refine lv_goto (tgt := 29) hx hb dX1_setBounds_25 (by decide) ?_
      refine Ce.callS (ct_X1_require l g hl0 true ) X ht hL hl sb_X1_require q1323 rfl rfl (Nat.le_of_ble_eq_true rfl) dX1_setBounds_29 ⟨Nat.le_of_ble_eq_true rfl, Nat.le_of_ble_eq_true rfl⟩ (by omega) (by omega) trivial (fun E1 H1 hx => OpX.x2 (absurd hx.2.1 (by decide)) hx.1 (hsk.ext hx.2.2).x (hC.trans hx.2.2.chg)) (fun r H locs hL hp => ?_)
      obtain ⟨rfl, hHH, hv⟩ := hp
      subst hHH
      refine lv_aload_n hx hb dX1_setBounds_32 rfl (lv_at hl 0 rfl) ?_
      obtain ⟨Ko, sta, dq, sl, bf, xs, fs, hh, hKo⟩ := id hsk
      have hKo0 := hKo.1
      obtain ⟨⟨⟨ob, -⟩, -⟩, -⟩ := hKo.2.2
      refine Ct.callV (ct_X1_save l g F S n st ln hf hs o Ko sta dq sl bf xs fs hh ) X hL hl vb_X1_save q301 (ob.recv hKV rfl) rfl rfl (Nat.le_of_ble_eq_true rfl) dX1_setBounds_33 ⟨Nat.le_of_ble_eq_true rfl, Nat.le_of_ble_eq_true rfl⟩ (by omega) (by omega) hKo (fun r H locs hL hp => ?_)
      obtain ⟨rfl, K, xs, ⟨hK0, hFs, hB, hS, hJ⟩, hKK, hC1⟩ := hp
      have hC := hC.trans (hC1.mono (fun q hq y => by have hq : Ko q = 2 := hq; have := hKo0 q (Or.inr y); omega))
      obtain ⟨Hz, hHz⟩ : ∃ Hz, Hz = H := ⟨_, rfl⟩
      obtain ⟨z, hz⟩ : ∃ z, Hz.size = z := ⟨_, rfl⟩
      have hzH : H.size = z := by rw [← hHz]; exact hz
      have hBz := hB
      have hFz := hFs
      rw [← hHz] at hBz hFz
      have hEz : Ext Hz H := by rw [hHz]; exact Ext.rfl'
      obtain ⟨⟨ob, k1, k2, nos, loo, los⟩, -, -, -, -, -, -⟩ := hB
      have hS0 := hS
      obtain ⟨hRO, x, hst⟩ := hS
      have hRO : RO (S.1 0) n := hRO
      have hst : StR g (fun q => K q = 5 + sta ∧ q < z) (fun q => K q = 4 ∧ q < z) (S.1 0) n x sta H := hst.mono (fun q a b => ⟨a, by omega⟩) (fun q a b => ⟨a, by omega⟩)
      have hn := hst.facts.2.2.2.2.2
      have hlz : gLo g ≤ z := by have := ob.lt; omega
      have hnF : ∀ q, K q ≠ 0 → ¬ F q := fun q hq y => hq (hK0 q (Or.inr y))
      refine lv_aload_n hx hb dX1_setBounds_36 rfl (lv_at hl 0 rfl) ?_
      refine r_get (C := RX1) (T := TX1) (N := 5) (ci := 1) X in_X1 rfl 0 (Nat.le_of_ble_eq_true rfl) q280 (fun _ h => h) ob rfl dX1_setBounds_37 ?_
      refine lv_iload_n hx hb dX1_setBounds_40 rfl (lv_at hl 1 rfl) ?_
      refine W.stk (w := (nI q.toNatClampNeg)) hqc ?_
      refine lv_iload_n hx hb dX1_setBounds_41 rfl (lv_at hl 2 rfl) ?_
      refine lv_iload_n hx hb dX1_setBounds_42 rfl (lv_at hl 3 rfl) ?_
      refine Ct.callV (ct_X2_bounds l g (fun q => K q = 5 + sta ∧ q < z) (fun q => K q = 4 ∧ q < z) (S.1 0) n x sta q.toNatClampNeg a b (fun q h1 h2 => by have := h1.1; have := h2.1; omega) (fun h => by have := hK0 _ (Or.inl hgE); have := h.1; omega) hql) X hL hl vb_X2_bounds q1444 (hst.recv hKV) rfl rfl (Nat.le_of_ble_eq_true rfl) dX1_setBounds_43 ⟨Nat.le_of_ble_eq_true rfl, Nat.le_of_ble_eq_true rfl⟩ (by omega) (by omega) hst (fun r H locs hL hp => ?_)
      obtain ⟨rfl, hst, hC1⟩ := hp
      have hCs := hC1
      have hC := hC.trans (hC1.mono (fun q hq => hnF q (by have := hq.1; omega)))
      have hfin := (SkR.put0 hK0 hFz hBz hJ hz hEz hCs hgE hlz (RO_b hRO hn hql c_11 (inB_up c_11 c_21)) hst).sc sc_up
      exact vx_ret (r_iret X hL rfl rfl dX1_setBounds_46 (by omega) (by omega) (OpP.mk (s_bnd_0 hnq (by unfold noV; rw [c_11, c_21]; rfl)) (v_n (jn_act _ _)) hfin.x hC))
theorem vb_X1_setBounds : VB yX1_setBounds cX1_setBounds 4 (some .int) 3 := ⟨q1441, q1442, q99, q1443, ⟨by decide, by decide, by decide +kernel⟩⟩

set_option maxRecDepth 100000 in
set_option maxHeartbeats 4000000 in
theorem ct_X1_setWeight (l : Launch) (g : GT) (F : Nat → Prop) (S : MS) (n st ln : Nat) (hf hs : Bool) (o : Nat) (q v : Int32) (hl0 : l.stackTraces = false) : Ce l g yX1_setWeight cX1_setWeight 4 (some .int) 15 33 275 [.ref o, .int q, .int v] (SkR g F S n st ln hf hs o) (OpP g F o (s_set 173 (!inB v (nI 0) (nI 9)) S st q v)) (OpX g F o "java/lang/IndexOutOfBoundsException" "java/lang/IllegalArgumentException" (s_set 173 (!inB v (nI 0) (nI 9)) S st q v)) := by
  refine Ce.of (by decide) (Nat.le_of_ble_eq_true rfl) ?_
  intro p e s m args below meth c X ht hP ls hl
  have hx := X.1
  have hb := X.2.1
  have hKV := X.2.2.2.2.2.2.2.1.1
  have hL : ∀ q ∈ ([] : List Loc), gLo g ≤ q.base := fun _ h => by cases h
  have hsk := hP
  have hgE := hKV.gE
  obtain ⟨sta, dq, sl, bf, x, hh, PB, PD, xs, fs, ob, hst, hR, hn, hbf, hPB, hdq, hsl, hf0, hf1, loo⟩ := hsk.v
  have hl : lv_has ls 4 [(0, .ref o), (1, .int q), (2, .int v)] := hl
  have hC : Chg (fun q => ¬ F q) s.heap s.heap := Chg.rfl'
  refine lv_iload_n hx hb dX1_setWeight_0 rfl (lv_at hl 1 rfl) ?_
  refine Cp.callS (v := .int (bI (inB q (nI 0) (nI 3)))) (ct_X1_isSide l g q ) X hL hl sb_X1_isSide q1407 rfl rfl (Nat.le_of_ble_eq_true rfl) dX1_setWeight_1 ⟨Nat.le_of_ble_eq_true rfl, Nat.le_of_ble_eq_true rfl⟩ (by omega) (by omega) trivial (fun locs hL => ?_)
  refine Ce.callS (ct_X1_requireIndex l g hl0 (inB q (nI 0) (nI 3)) ) X ht hL hl sb_X1_requireIndex q1380 rfl rfl (Nat.le_of_ble_eq_true rfl) dX1_setWeight_4 ⟨Nat.le_of_ble_eq_true rfl, Nat.le_of_ble_eq_true rfl⟩ (by omega) (by omega) trivial (fun E1 H1 hx => OpX.x1 (s_set_1 (by unfold noS; rw [hx.2.1]; rfl)) hx.1 (hsk.ext hx.2.2).x (hC.trans hx.2.2.chg)) (fun r H locs hL hp => ?_)
  obtain ⟨rfl, hHH, hc⟩ := hp
  subst hHH
  have hnq : noS q = false := by unfold noS; rw [hc]; rfl
  obtain ⟨hqc, hql⟩ := noS_nat hnq
  refine lv_iload_n hx hb dX1_setWeight_7 rfl (lv_at hl 2 rfl) ?_
  refine lv_iconst (v := nI 0) hx hb dX1_setWeight_8 (by decide) ?_
  refine lv_bipush (v := nI 9) hx hb dX1_setWeight_9 (by decide) ?_
  refine Cp.callS (v := .int (bI (inB v (nI 0) (nI 9)))) (ct_X1_inRange l g v (nI 0) (nI 9) ) X hL hl sb_X1_inRange q1322 rfl rfl (Nat.le_of_ble_eq_true rfl) dX1_setWeight_11 ⟨Nat.le_of_ble_eq_true rfl, Nat.le_of_ble_eq_true rfl⟩ (by omega) (by omega) trivial (fun locs hL => ?_)
  refine Ce.callS (ct_X1_require l g hl0 (inB v (nI 0) (nI 9)) ) X ht hL hl sb_X1_require q1323 rfl rfl (Nat.le_of_ble_eq_true rfl) dX1_setWeight_14 ⟨Nat.le_of_ble_eq_true rfl, Nat.le_of_ble_eq_true rfl⟩ (by omega) (by omega) trivial (fun E1 H1 hx => OpX.x2 (s_set_2 hnq (by rw [hx.2.1]; rfl)) hx.1 (hsk.ext hx.2.2).x (hC.trans hx.2.2.chg)) (fun r H locs hL hp => ?_)
  obtain ⟨rfl, hHH, hv⟩ := hp
  subst hHH
  refine lv_aload_n hx hb dX1_setWeight_17 rfl (lv_at hl 0 rfl) ?_
  obtain ⟨Ko, sta, dq, sl, bf, xs, fs, hh, hKo⟩ := id hsk
  have hKo0 := hKo.1
  obtain ⟨⟨⟨ob, -⟩, -⟩, -⟩ := hKo.2.2
  refine Ct.callV (ct_X1_save l g F S n st ln hf hs o Ko sta dq sl bf xs fs hh ) X hL hl vb_X1_save q301 (ob.recv hKV rfl) rfl rfl (Nat.le_of_ble_eq_true rfl) dX1_setWeight_18 ⟨Nat.le_of_ble_eq_true rfl, Nat.le_of_ble_eq_true rfl⟩ (by omega) (by omega) hKo (fun r H locs hL hp => ?_)
  obtain ⟨rfl, K, xs, ⟨hK0, hFs, hB, hS, hJ⟩, hKK, hC1⟩ := hp
  have hC := hC.trans (hC1.mono (fun q hq y => by have hq : Ko q = 2 := hq; have := hKo0 q (Or.inr y); omega))
  obtain ⟨Hz, hHz⟩ : ∃ Hz, Hz = H := ⟨_, rfl⟩
  obtain ⟨z, hz⟩ : ∃ z, Hz.size = z := ⟨_, rfl⟩
  have hzH : H.size = z := by rw [← hHz]; exact hz
  have hBz := hB
  have hFz := hFs
  rw [← hHz] at hBz hFz
  have hEz : Ext Hz H := by rw [hHz]; exact Ext.rfl'
  obtain ⟨⟨ob, k1, k2, nos, loo, los⟩, -, -, -, -, -, -⟩ := hB
  have hS0 := hS
  obtain ⟨hRO, x, hst⟩ := hS
  have hRO : RO (S.1 0) n := hRO
  have hst : StR g (fun q => K q = 5 + sta ∧ q < z) (fun q => K q = 4 ∧ q < z) (S.1 0) n x sta H := hst.mono (fun q a b => ⟨a, by omega⟩) (fun q a b => ⟨a, by omega⟩)
  have hn := hst.facts.2.2.2.2.2
  have hlz : gLo g ≤ z := by have := ob.lt; omega
  have hnF : ∀ q, K q ≠ 0 → ¬ F q := fun q hq y => hq (hK0 q (Or.inr y))
  obtain ⟨b, sd, SS, hPa, loa, hSa, hSP, obs, hbg, hsd, hofs, hinj, h160, hn⟩ := hst
  obtain ⟨a1, a2, a3, a4, ⟨s0p, s1p, s2p, s3p, s4p⟩, lS, ⟨n1, n2, n3, n4, n5, n6, n7, n8, n9, n10⟩, o0, w1, w2, w3, w4⟩ := hsd
  have hobl := obs.lt
  refine lv_aload_n hx hb dX1_setWeight_21 rfl (lv_at hl 0 rfl) ?_
  refine r_get (C := RX1) (T := TX1) (N := 5) (ci := 1) X in_X1 rfl 0 (Nat.le_of_ble_eq_true rfl) q280 (fun _ h => h) ob rfl dX1_setWeight_22 ?_
  refine r_getN (C := RX2) (T := TX2) (N := 4) (ci := 2) X in_X2 rfl 1 (Nat.le_of_ble_eq_true rfl) q213 (fun _ h => h) obs rfl dX1_setWeight_25 ?_
  refine r_getN (C := RX4) (T := TX4) (N := 4) (ci := 4) X in_X4 rfl 3 (Nat.le_of_ble_eq_true rfl) q199 (fun _ h => h) o0 rfl dX1_setWeight_28 ?_
  refine lv_iload_n hx hb dX1_setWeight_31 rfl (lv_at hl 1 rfl) ?_
  refine W.stk (w := (nI q.toNatClampNeg)) hqc ?_
  refine r_ild X w4 q.toNatClampNeg (nI_cl (by omega) rfl) (nI_nn (by omega) rfl) (by omega) dX1_setWeight_32 ?_
  refine lv_istore_n (lv' := [(3, .int _), (0, .ref _), (1, .int _), (2, .int _)]) hx hb dX1_setWeight_33 rfl hl (by decide) rfl (fun ls hl => ?_)
  refine lv_aload_n hx hb dX1_setWeight_34 rfl (lv_at hl 1 rfl) ?_
  refine r_get (C := RX1) (T := TX1) (N := 5) (ci := 1) X in_X1 rfl 0 (Nat.le_of_ble_eq_true rfl) q280 (fun _ h => h) ob rfl dX1_setWeight_35 ?_
  refine r_getN (C := RX2) (T := TX2) (N := 4) (ci := 2) X in_X2 rfl 1 (Nat.le_of_ble_eq_true rfl) q213 (fun _ h => h) obs rfl dX1_setWeight_38 ?_
  refine r_getN (C := RX4) (T := TX4) (N := 4) (ci := 4) X in_X4 rfl 3 (Nat.le_of_ble_eq_true rfl) q199 (fun _ h => h) o0 rfl dX1_setWeight_41 ?_
  refine lv_iload_n hx hb dX1_setWeight_44 rfl (lv_at hl 2 rfl) ?_
  refine W.stk (w := (nI q.toNatClampNeg)) hqc ?_
  refine lv_iload_n hx hb dX1_setWeight_45 rfl (lv_at hl 3 rfl) ?_
  refine r_ist X hL w4 lS.2.2.2.2 q.toNatClampNeg (nI_cl (by omega) rfl) (nI_nn (by omega) rfl) (by omega) dX1_setWeight_46 (fun H locs hL h1 h2 => ?_)
  have w4 : Ar g a4 0 4 (upd (mwe (S.1 0)) q.toNatClampNeg v) H := h1
  have ob := ob.on h2 (fun y => by have h4 : K a4 = 5 + sta := (hSP _ s4p).1.1; rw [← y] at h4; omega)
  have obs := obs.on h2 (fun y => hSa (by rw [y]; exact s4p))
  have o0 := o0.on h2 n10
  have hCs : Chg (fun q => K q = 5 + sta ∧ q < z) Hz H := by rw [hHz]; exact h2.chg (hSP _ s4p).1
  rw [hHz] at hCs
  have hbg := hbg.keep (Q := fun q => q = a4) (h2.chg rfl) (fun q hq y => hq.2.2 (y ▸ s4p)) (fun y => by have := hK0 _ (Or.inl hgE); have h4 := (hSP _ s4p).1.1; rw [← y] at h4; omega)
  have w1 := w1.on h2 n3
  have w2 := w2.on h2 n5
  have w3 := w3.on h2 n6
  have hst : StR g (fun q => K q = 5 + sta ∧ q < z) (fun q => K q = 4 ∧ q < z) (upd (S.1 0) (173 + q.toNatClampNeg) v) n x sta H := ⟨b, sd, SS, hPa, loa, hSa, fun q hq => ⟨(hSP q hq).1, Nat.lt_of_lt_of_le (hSP q hq).2 hCs.1⟩, by rw [upd_n _ _ (by omega), upd_n _ _ (by omega)]; exact obs, hbg, ⟨a1, a2, a3, a4, ⟨s0p, s1p, s2p, s3p, s4p⟩, lS, ⟨n1, n2, n3, n4, n5, n6, n7, n8, n9, n10⟩, o0, w1.to (fun j hj => (upd_n (S.1 0) v (show 161 + j ≠ 173 + q.toNatClampNeg by omega)).symm), w2.to (fun j hj => (upd_n (S.1 0) v (show 165 + j ≠ 173 + q.toNatClampNeg by omega)).symm), w3.to (fun j hj => (upd_n (S.1 0) v (show 169 + j ≠ 173 + q.toNatClampNeg by omega)).symm), w4.to (fun j hj => upw_w (S.1 0) 173 v)⟩, of_to (fun j hj => (hofs j hj).keep hCs (fun q h1 h2 => by have := h1.1; have := h2.1; omega)) (fun k hk => (upd_n _ _ (by omega)).symm) hn, hinj, by rw [upd_n _ _ (by omega)]; exact h160, hn⟩
  have hfin := (SkR.put0 hK0 hFz hBz hJ hz hEz hCs hgE hlz (RO_we hRO hn hql hv) hst).sc sc_up
  have hC := hC.trans (hCs.mono (fun q hq => hnF q (by have := hq.1; omega)))
  refine lv_iload_n hx hb dX1_setWeight_47 rfl (lv_at hl 0 rfl) ?_
  exact vx_ret (r_iret X hL rfl rfl dX1_setWeight_48 (by omega) (by omega) (OpP.mk (s_set_0 hnq (by rw [hv]; rfl)) rfl hfin.x hC))
theorem vb_X1_setWeight : VB yX1_setWeight cX1_setWeight 4 (some .int) 2 := ⟨q1452, q1453, q99, q1454, ⟨by decide, by decide, by decide +kernel⟩⟩

set_option maxRecDepth 100000 in
set_option maxHeartbeats 4000000 in
theorem ct_X1_append (l : Launch) (g : GT) (F : Nat → Prop) (S : MS) (n st ln : Nat) (hf hs : Bool) (o : Nat) (v : Int32) (hl0 : l.stackTraces = false) : Ce l g yX1_append cX1_append 2 (some .int) 9 2 12 [.ref o, .int v] (SkR g F S n st ln hf hs o) (OpP g F o (s_append S ln v)) (OpX g F o "java/lang/IllegalArgumentException" "java/lang/IllegalStateException" (s_append S ln v)) := by
  refine Ce.of (by decide) (Nat.le_of_ble_eq_true rfl) ?_
  intro p e s m args below meth c X ht hP ls hl
  have hx := X.1
  have hb := X.2.1
  have hKV := X.2.2.2.2.2.2.2.1.1
  have hL : ∀ q ∈ ([] : List Loc), gLo g ≤ q.base := fun _ h => by cases h
  have hsk := hP
  have hgE := hKV.gE
  have hl : lv_has ls 2 [(0, .ref o), (1, .int v)] := hl
  have hC : Chg (fun q => ¬ F q) s.heap s.heap := Chg.rfl'
  obtain ⟨K, sta, dq, sl, bf, xs, fs, hh, hK0, hFs, hB, hS, hJ⟩ := id hsk
  obtain ⟨⟨ob, k1, k2, nos, loo, los⟩, hdq, hbf, hsl, hxq, hxi, hsv⟩ := id hB
  have hKE : K (gE g) = 0 := hK0 _ (Or.inl hgE)
  have hnF : ∀ q, K q ≠ 0 → ¬ F q := fun q hq y => hq (hK0 q (Or.inr y))
  have hl60 := hbf.chr.1
  refine lv_iload_n hx hb dX1_append_0 rfl (lv_at hl 1 rfl) ?_
  refine lv_bipush (v := nI 33) hx hb dX1_append_1 (by decide) ?_
  refine lv_bipush (v := nI 126) hx hb dX1_append_3 (by decide) ?_
  refine Cp.callS (v := .int (bI (inB v (nI 33) (nI 126)))) (ct_X1_inRange l g v (nI 33) (nI 126) ) X hL hl sb_X1_inRange q1322 rfl rfl (Nat.le_of_ble_eq_true rfl) dX1_append_5 ⟨Nat.le_of_ble_eq_true rfl, Nat.le_of_ble_eq_true rfl⟩ (by omega) (by omega) trivial (fun locs hL => ?_)
  refine Ce.callS (ct_X1_require l g hl0 (inB v (nI 33) (nI 126)) ) X ht hL hl sb_X1_require q1323 rfl rfl (Nat.le_of_ble_eq_true rfl) dX1_append_8 ⟨Nat.le_of_ble_eq_true rfl, Nat.le_of_ble_eq_true rfl⟩ (by omega) (by omega) trivial (fun E1 H1 hx => OpX.x1 (s_app_1 hx.2.1) hx.1 (hsk.ext hx.2.2).x (hC.trans hx.2.2.chg)) (fun r H locs hL hp => ?_)
  obtain ⟨rfl, hHH, hc⟩ := hp
  subst hHH
  refine lv_aload_n hx hb dX1_append_11 rfl (lv_at hl 0 rfl) ?_
  refine r_get (C := RX1) (T := TX1) (N := 5) (ci := 1) X in_X1 rfl 3 (Nat.le_of_ble_eq_true rfl) q284 (fun _ h => h) ob rfl dX1_append_12 ?_
  refine Cp.callV (v := .int (nI ln)) (ct_J5_length l g (fun q => K q = 3) (S.1 4) ln bf ) X hL hl vb_J5_length q621 (hbf.recv hKV) rfl rfl (Nat.le_of_ble_eq_true rfl) dX1_append_15 ⟨Nat.le_of_ble_eq_true rfl, Nat.le_of_ble_eq_true rfl⟩ (by omega) (by omega) hbf (fun locs hL => ?_)
  refine lv_bipush (v := nI 60) hx hb dX1_append_18 (by decide) ?_
  refine n_icmp_ge (tgt := 27) X dX1_append_20 (by decide) (by omega) (by omega) (fun c_20 => ?_) (fun c_20 => ?_)
  ·
    refine lv_iconst (v := nI 0) hx hb dX1_append_27 (by decide) ?_
    refine Ce.callS (ct_X1_requireState l g hl0 false ) X ht hL hl sb_X1_requireState q1341 rfl rfl (Nat.le_of_ble_eq_true rfl) dX1_append_28 ⟨Nat.le_of_ble_eq_true rfl, Nat.le_of_ble_eq_true rfl⟩ (by omega) (by omega) trivial (fun E1 H1 hx => OpX.x2 (s_app_2 hc (by omega)) hx.1 (hsk.ext hx.2.2).x (hC.trans hx.2.2.chg)) (fun r H locs hL hp => ?_)
    obtain ⟨rfl, hHH, hv⟩ := hp
    subst hHH
    exact absurd hv (by decide)
  ·
    refine lv_iconst (v := nI 1) hx hb dX1_append_23 (by decide) ?_
    refine lv_goto (tgt := 28) hx hb dX1_append_24 (by decide) ?_
    refine Ce.callS (ct_X1_requireState l g hl0 true ) X ht hL hl sb_X1_requireState q1341 rfl rfl (Nat.le_of_ble_eq_true rfl) dX1_append_28 ⟨Nat.le_of_ble_eq_true rfl, Nat.le_of_ble_eq_true rfl⟩ (by omega) (by omega) trivial (fun E1 H1 hx => OpX.x2 (absurd hx.2.1 (by decide)) hx.1 (hsk.ext hx.2.2).x (hC.trans hx.2.2.chg)) (fun r H locs hL hp => ?_)
    obtain ⟨rfl, hHH, hv⟩ := hp
    subst hHH
    have hCh : Chr v := by obtain ⟨e1, e2, e3⟩ := inB_nat (by omega) (by omega) hc; exact ⟨_, e2, e3, e1⟩
    refine lv_aload_n hx hb dX1_append_31 rfl (lv_at hl 0 rfl) ?_
    refine r_get (C := RX1) (T := TX1) (N := 5) (ci := 1) X in_X1 rfl 3 (Nat.le_of_ble_eq_true rfl) q284 (fun _ h => h) ob rfl dX1_append_32 ?_
    refine lv_iload_n hx hb dX1_append_35 rfl (lv_at hl 1 rfl) ?_
    refine lv_i2c hx hb dX1_append_36 rfl ?_
    refine W.stk (w := v) hCh.i2c ?_
    refine Ct.callV (ct_J5_append_3 l g (fun q => K q = 3) (S.1 4) ln bf v hCh (by omega)) X hL hl vb_J5_append_3 q1462 (hbf.recv hKV) rfl rfl (Nat.le_of_ble_eq_true rfl) dX1_append_37 ⟨Nat.le_of_ble_eq_true rfl, Nat.le_of_ble_eq_true rfl⟩ (by omega) (by omega) hbf (fun r H locs hL hp => ?_)
    obtain ⟨rfl, hbf, hC1⟩ := hp
    have ob := ob.chg hC1 (fun y => by have y : K o = 3 := y; omega)
    have hS1 := hS.keep hC1 (fun q hq y => by have y : K q = 3 := y; omega) (fun q hq y => by have y : K q = 3 := y; omega) (fun y => by have y : K (gE g) = 3 := y; omega)
    have hfin : SkR g F (uS (uA S 4 (upd (S.1 4) ln v)) 13 (nI (ln + 1))) n st (ln + 1) hf hs o H := ⟨K, sta, dq, sl, bf, xs, fs, hh, hK0, fun q hq => Nat.lt_of_lt_of_le (hFs q hq) hC1.1, hB.buf hC1 hbf hKE, hS1, hJ.1, rfl, hJ.2.2⟩
    have hC := hC.trans (hC1.mono (fun q hq => hnF q (by have hq : K q = 3 := hq; omega)))
    refine lv_pop hx hb dX1_append_40 rfl ?_
    refine lv_aload_n hx hb dX1_append_41 rfl (lv_at hl 0 rfl) ?_
    refine r_get (C := RX1) (T := TX1) (N := 5) (ci := 1) X in_X1 rfl 3 (Nat.le_of_ble_eq_true rfl) q284 (fun _ h => h) ob rfl dX1_append_42 ?_
    refine Cp.callV (v := .int (nI (ln + 1))) (ct_J5_length l g (fun q => K q = 3) (upd (S.1 4) ln v) (ln + 1) bf ) X hL hl vb_J5_length q621 (hbf.recv hKV) rfl rfl (Nat.le_of_ble_eq_true rfl) dX1_append_45 ⟨Nat.le_of_ble_eq_true rfl, Nat.le_of_ble_eq_true rfl⟩ (by omega) (by omega) hbf (fun locs hL => ?_)
    exact vx_ret (r_iret X hL rfl rfl dX1_append_48 (by omega) (by omega) (OpP.mk (s_app_0 hc (by omega)) rfl hfin.x hC))
theorem vb_X1_append : VB yX1_append cX1_append 2 (some .int) 1 := ⟨q1459, q1460, q99, q1461, ⟨by decide, by decide, by decide +kernel⟩⟩

set_option maxRecDepth 100000 in
set_option maxHeartbeats 4000000 in
theorem ct_X1_clearBuffer (l : Launch) (g : GT) (F : Nat → Prop) (S : MS) (n st ln : Nat) (hf hs : Bool) (o : Nat)  : Ct l g yX1_clearBuffer cX1_clearBuffer 2 (some .int) 5 0 0 [.ref o] (SkR g F S n st ln hf hs o) (OpP g F o (s_clear S ln)) := by
  refine Ct.of (by decide) (Nat.le_of_ble_eq_true rfl) ?_
  intro p e s m args below meth c X hP ls hl
  have hx := X.1
  have hb := X.2.1
  have hKV := X.2.2.2.2.2.2.2.1.1
  have hL : ∀ q ∈ ([] : List Loc), gLo g ≤ q.base := fun _ h => by cases h
  have hsk := hP
  have hgE := hKV.gE
  have hl : lv_has ls 2 [(0, .ref o)] := hl
  have hC : Chg (fun q => ¬ F q) s.heap s.heap := Chg.rfl'
  obtain ⟨K, sta, dq, sl, bf, xs, fs, hh, hK0, hFs, hB, hS, hJ⟩ := id hsk
  obtain ⟨⟨ob, k1, k2, nos, loo, los⟩, hdq, hbf, hsl, hxq, hxi, hsv⟩ := id hB
  have hKE : K (gE g) = 0 := hK0 _ (Or.inl hgE)
  have hnF : ∀ q, K q ≠ 0 → ¬ F q := fun q hq y => hq (hK0 q (Or.inr y))
  refine lv_aload_n hx hb dX1_clearBuffer_0 rfl (lv_at hl 0 rfl) ?_
  refine r_get (C := RX1) (T := TX1) (N := 5) (ci := 1) X in_X1 rfl 3 (Nat.le_of_ble_eq_true rfl) q284 (fun _ h => h) ob rfl dX1_clearBuffer_1 ?_
  refine Cp.callV (v := .int (nI ln)) (ct_J5_length l g (fun q => K q = 3) (S.1 4) ln bf ) X hL hl vb_J5_length q621 (hbf.recv hKV) rfl rfl (Nat.le_of_ble_eq_true rfl) dX1_clearBuffer_4 ⟨Nat.le_of_ble_eq_true rfl, Nat.le_of_ble_eq_true rfl⟩ (by omega) (by omega) hbf (fun locs hL => ?_)
  refine lv_istore_n (lv' := [(1, .int _), (0, .ref _)]) hx hb dX1_clearBuffer_7 rfl hl (by decide) rfl (fun ls hl => ?_)
  refine lv_aload_n hx hb dX1_clearBuffer_8 rfl (lv_at hl 1 rfl) ?_
  refine r_get (C := RX1) (T := TX1) (N := 5) (ci := 1) X in_X1 rfl 3 (Nat.le_of_ble_eq_true rfl) q284 (fun _ h => h) ob rfl dX1_clearBuffer_9 ?_
  refine lv_iconst (v := nI 0) hx hb dX1_clearBuffer_12 (by decide) ?_
  refine Ct.callV (ct_J5_setLength l g (fun q => K q = 3) (S.1 4) ln bf ) X hL hl vb_J5_setLength q628 (hbf.recv hKV) rfl rfl (Nat.le_of_ble_eq_true rfl) dX1_clearBuffer_13 ⟨Nat.le_of_ble_eq_true rfl, Nat.le_of_ble_eq_true rfl⟩ (by omega) (by omega) hbf (fun r H locs hL hp => ?_)
  obtain ⟨rfl, hbf, hC1⟩ := hp
  have hS1 := hS.keep hC1 (fun q hq y => by have y : K q = 3 := y; omega) (fun q hq y => by have y : K q = 3 := y; omega) (fun y => by have y : K (gE g) = 3 := y; omega)
  have hfin : SkR g F (uS S 13 (nI 0)) n st 0 hf hs o H := ⟨K, sta, dq, sl, bf, xs, fs, hh, hK0, fun q hq => Nat.lt_of_lt_of_le (hFs q hq) hC1.1, hB.buf hC1 (hbf (S.1 4)) hKE, hS1, hJ.1, rfl, hJ.2.2⟩
  have hC := hC.trans (hC1.mono (fun q hq => hnF q (by have hq : K q = 3 := hq; omega)))
  refine lv_iload_n hx hb dX1_clearBuffer_16 rfl (lv_at hl 0 rfl) ?_
  exact r_iret X hL rfl rfl dX1_clearBuffer_17 (by omega) (by omega) (OpP.mk rfl rfl hfin.x hC)
theorem vb_X1_clearBuffer : VB yX1_clearBuffer cX1_clearBuffer 2 (some .int) 0 := ⟨q618, q619, q99, q620, ⟨by decide, by decide, by decide +kernel⟩⟩

set_option maxRecDepth 100000 in
set_option maxHeartbeats 4000000 in
theorem ct_X1_keep (l : Launch) (g : GT) (F : Nat → Prop) (S : MS) (n st ln : Nat) (hf hs : Bool) (o : Nat) (v : Int32) (hl0 : l.stackTraces = false) : Ce l g yX1_keep cX1_keep 2 none 14 31 266 [.ref o, .int v] (SkR g F S n st ln hf hs o) (OpP g F o (s_keep S hf hs v)) (OpX g F o "java/lang/IllegalArgumentException" "" (s_keep S hf hs v)) := by
  refine Ce.of (by decide) (Nat.le_of_ble_eq_true rfl) ?_
  intro p e s m args below meth c X ht hP ls hl
  have hx := X.1
  have hb := X.2.1
  have hKV := X.2.2.2.2.2.2.2.1.1
  have hL : ∀ q ∈ ([] : List Loc), gLo g ≤ q.base := fun _ h => by cases h
  have hsk := hP
  have hgE := hKV.gE
  have hl : lv_has ls 2 [(0, .ref o), (1, .int v)] := hl
  have hC : Chg (fun q => ¬ F q) s.heap s.heap := Chg.rfl'
  obtain ⟨K, sta, dq, sl, bf, xs, fs, hh, hK0, hFs, hB, hS, hJ⟩ := id hsk
  obtain ⟨⟨ob, k1, k2, nos, loo, los⟩, hdq, hbf, hsl, hxq, hxi, hsv⟩ := id hB
  have hKE : K (gE g) = 0 := hK0 _ (Or.inl hgE)
  have hnF : ∀ q, K q ≠ 0 → ¬ F q := fun q hq y => hq (hK0 q (Or.inr y))
  refine lv_iload_n hx hb dX1_keep_0 rfl (lv_at hl 1 rfl) ?_
  refine Cp.callS (v := .int (bI (inB v (nI 0) (nI 1)))) (ct_X1_isSlot l g v ) X hL hl sb_X1_isSlot q1516 rfl rfl (Nat.le_of_ble_eq_true rfl) dX1_keep_1 ⟨Nat.le_of_ble_eq_true rfl, Nat.le_of_ble_eq_true rfl⟩ (by omega) (by omega) trivial (fun locs hL => ?_)
  refine Ce.callS (ct_X1_require l g hl0 (inB v (nI 0) (nI 1)) ) X ht hL hl sb_X1_require q1323 rfl rfl (Nat.le_of_ble_eq_true rfl) dX1_keep_4 ⟨Nat.le_of_ble_eq_true rfl, Nat.le_of_ble_eq_true rfl⟩ (by omega) (by omega) trivial (fun E1 H1 hx => OpX.n1 (s_keep_1 hx.2.1) hx.1 ((hsk.ext hx.2.2).sc (s_keep_sc hx.2.1 hJ.2.2.1 hJ.2.2.2)).x (hC.trans hx.2.2.chg)) (fun r H locs hL hp => ?_)
  obtain ⟨rfl, hHH, hc⟩ := hp
  subst hHH
  obtain ⟨hvc, -, hvl⟩ := inB_nat (by omega) (by omega) hc
  refine lv_aload_n hx hb dX1_keep_7 rfl (lv_at hl 0 rfl) ?_
  refine r_get (C := RX1) (T := TX1) (N := 5) (ci := 1) X in_X1 rfl 2 (Nat.le_of_ble_eq_true rfl) q282 (fun _ h => h) ob rfl dX1_keep_8 ?_
  refine lv_iload_n hx hb dX1_keep_11 rfl (lv_at hl 1 rfl) ?_
  refine W.stk (w := (nI v.toNatClampNeg)) hvc ?_
  refine lv_aload_n hx hb dX1_keep_12 rfl (lv_at hl 0 rfl) ?_
  refine r_get (C := RX1) (T := TX1) (N := 5) (ci := 1) X in_X1 rfl 0 (Nat.le_of_ble_eq_true rfl) q280 (fun _ h => h) ob rfl dX1_keep_13 ?_
  obtain ⟨z, hz⟩ : ∃ z, s.heap.size = z := ⟨_, rfl⟩
  have hszl := ob.lt
  have hslz := hsl.lt
  obtain ⟨hRO, x, hst⟩ := id hS
  refine Ct.callV (ct_X2_twin l g (fun q => K q = 5 + sta) (fun q => K q = 4 ∧ q < z) (S.1 0) n x sta ) X hL hl vb_X2_twin q326 (hst.recv hKV) rfl rfl (Nat.le_of_ble_eq_true rfl) dX1_keep_16 ⟨Nat.le_of_ble_eq_true rfl, Nat.le_of_ble_eq_true rfl⟩ (by omega) (by omega) (hst.mono (fun q a _ => a) (fun q a b => ⟨a, by omega⟩)) (fun r H locs hL hp => ?_)
  obtain ⟨t, htw, rfl, hE1⟩ := hp
  rw [hz] at htw
  have htl := htw.lt
  have htz := htw.facts.1
  obtain ⟨K1, ka, kb⟩ : ∃ K1 : Nat → Nat, (∀ q, q < z → K1 q = K q) ∧ ∀ q, z ≤ q → K1 q = 5 + t := ⟨fun q => if q < z then K q else 5 + t, fun q h => if_pos h, fun q h => if_neg (by omega)⟩
  have hre : ∀ q, q < z → K q = K1 q := fun q hq => (ka q hq).symm
  have ht : StK g K1 (S.1 0) n t H := ⟨hRO, x, htw.mono (fun q a b => kb q a) (fun q a b => by show K1 q = 4; rw [ka q a.2]; exact a.1)⟩
  have hB0 := hB
  have hB := (hB.re (fun q hq => hre q (by omega))).ext hE1
  have hS := (hS.re (fun q hq => hre q (by omega))).ext hE1
  have ob := ob.ext hE1
  have hsl := hsl.ext hE1
  have hC := hC.trans hE1.chg
  have hK1 : ∀ q, (q < gLo g ∨ F q) → K1 q = 0 := fun q hq => by rw [ka q (hq.elim (fun y => by omega) (fun y => by have := hFs q y; omega))]; exact hK0 q hq
  have hFs : ∀ q, F q → q < H.size := fun q hq => Nat.lt_of_lt_of_le (hFs q hq) (by have := hE1.1; omega)
  obtain ⟨bt1, sd1, S1, -, -, -, -, ot, -⟩ := id htw
  have hsl0 := hsl
  refine r_qst (k := 5) X hL hsl rfl ot rfl (Or.inl rfl) los v.toNatClampNeg (nI_cl (by omega) rfl) (nI_nn (by omega) rfl) (by omega) dX1_keep_19 (fun H locs hL h1 h2 => ?_)
  have hsl : Aq g sl 5 2 (va_up fs v.toNatClampNeg (some t)) H := h1
  have ob := ob.on h2 nos
  have hC1 : Chg (fun q => q = sl) _ H := h2.chg rfl
  have hB1 := hB.slot (fk1 := putP (S.1 3) (S.1 0) (179 * v.toNatClampNeg) 179) hC1 hsl ht (by omega) (by have := hst.lt; omega) (fun j hj y => by obtain ⟨m, hm⟩ := (hxq j hj).2; have := hm.facts.2.2.2.1; omega) (fun i hi => (putP_in hi).symm) (fun q hq hne i hi => (putP_out (by omega)).symm) hgE
  have kS : ∀ q, K1 q ≠ 1 → ¬ q = sl := fun q hq e => hq (by rw [e, ka _ (by omega)]; exact k2)
  have hS1 := hS.keep hC1 (fun q hq => kS q (by omega)) (fun q hq => kS q (by omega)) (by omega)
  have hfin : SkR g F (uS (uS (uA S 3 (putP (S.1 3) (S.1 0) (179 * v.toNatClampNeg) 179)) 10 (bI (hf || decide (v = nI 0)))) 11 (bI (hs || decide (v = nI 1)))) n st ln (hf || decide (v.toNatClampNeg = 0)) (hs || decide (v.toNatClampNeg = 1)) o H := ⟨K1, sta, dq, sl, bf, xs, _, hh, hK1, fun q hq => Nat.lt_of_lt_of_le (hFs q hq) hC1.1, hB1, hS1, hJ.1, hJ.2.1, by show bI (hf || decide (v = nI 0)) = _; rw [dec_0 hvc], by show bI (hs || decide (v = nI 1)) = _; rw [dec_1 hvc (by omega)]⟩
  have hC := hC.trans (h2.chg (P := (fun q => ¬ F q)) (fun y => by have := hK0 _ (Or.inr y); omega))
  exact vx_ret (r_vret X hL dX1_keep_20 (by omega) (by omega) (OpP.mk (s_keep_0 hc) rfl hfin.x hC))
theorem vb_X1_keep : VB yX1_keep cX1_keep 2 none 1 := ⟨q1513, q1514, q99, q1515, ⟨by decide, by decide, by decide +kernel⟩⟩

set_option maxRecDepth 100000 in
set_option maxHeartbeats 4000000 in
theorem ct_X1_goBack (l : Launch) (g : GT) (F : Nat → Prop) (S : MS) (n st ln : Nat) (hf hs : Bool) (o : Nat) (v : Int32) (hl0 : l.stackTraces = false) : Ce l g yX1_goBack cX1_goBack 2 none 15 63 535 [.ref o, .int v] (SkR g F S n st ln hf hs o) (OpP g F o (s_goBack S st hf hs v)) (OpX g F o "java/lang/IllegalArgumentException" "java/lang/IllegalStateException" (s_goBack S st hf hs v)) := by
  refine Ce.of (by decide) (Nat.le_of_ble_eq_true rfl) ?_
  intro p e s m args below meth c X ht hP ls hl
  have hx := X.1
  have hb := X.2.1
  have hKV := X.2.2.2.2.2.2.2.1.1
  have hL : ∀ q ∈ ([] : List Loc), gLo g ≤ q.base := fun _ h => by cases h
  have hsk := hP
  have hgE := hKV.gE
  have hl : lv_has ls 2 [(0, .ref o), (1, .int v)] := hl
  have hC : Chg (fun q => ¬ F q) s.heap s.heap := Chg.rfl'
  obtain ⟨K, sta, dq, sl, bf, xs, fs, hh, hK0, hFs, hB, hS, hJ⟩ := id hsk
  obtain ⟨⟨ob, k1, k2, nos, loo, los⟩, hdq, hbf, hsl, hxq, hxi, hsv⟩ := id hB
  have hKE : K (gE g) = 0 := hK0 _ (Or.inl hgE)
  have hnF : ∀ q, K q ≠ 0 → ¬ F q := fun q hq y => hq (hK0 q (Or.inr y))
  refine lv_iload_n hx hb dX1_goBack_0 rfl (lv_at hl 1 rfl) ?_
  refine Cp.callS (v := .int (bI (inB v (nI 0) (nI 1)))) (ct_X1_isSlot l g v ) X hL hl sb_X1_isSlot q1516 rfl rfl (Nat.le_of_ble_eq_true rfl) dX1_goBack_1 ⟨Nat.le_of_ble_eq_true rfl, Nat.le_of_ble_eq_true rfl⟩ (by omega) (by omega) trivial (fun locs hL => ?_)
  refine Ce.callS (ct_X1_require l g hl0 (inB v (nI 0) (nI 1)) ) X ht hL hl sb_X1_require q1323 rfl rfl (Nat.le_of_ble_eq_true rfl) dX1_goBack_4 ⟨Nat.le_of_ble_eq_true rfl, Nat.le_of_ble_eq_true rfl⟩ (by omega) (by omega) trivial (fun E1 H1 hx => OpX.n1 (s_gb_1 hx.2.1) hx.1 (hsk.ext hx.2.2).x (hC.trans hx.2.2.chg)) (fun r H locs hL hp => ?_)
  obtain ⟨rfl, hHH, hc⟩ := hp
  subst hHH
  obtain ⟨hvc, -, hvl⟩ := inB_nat (by omega) (by omega) hc
  refine lv_aload_n hx hb dX1_goBack_7 rfl (lv_at hl 0 rfl) ?_
  refine r_get (C := RX1) (T := TX1) (N := 5) (ci := 1) X in_X1 rfl 2 (Nat.le_of_ble_eq_true rfl) q282 (fun _ h => h) ob rfl dX1_goBack_8 ?_
  refine lv_iload_n hx hb dX1_goBack_11 rfl (lv_at hl 1 rfl) ?_
  refine W.stk (w := (nI v.toNatClampNeg)) hvc ?_
  rcases hzv : fs v.toNatClampNeg with _ | w
  ·
    refine r_qld (k := 5) X hsl rfl v.toNatClampNeg (nI_cl (by omega) rfl) (nI_nn (by omega) rfl) (by omega) dX1_goBack_12 ?_
    rw [show va_rf (fs v.toNatClampNeg) = .null from by rw [hzv]; rfl]
    refine lv_ifnullN (tgt := 20) hx hb dX1_goBack_13 (by decide) ?_
    refine lv_iconst (v := nI 0) hx hb dX1_goBack_20 (by decide) ?_
    refine Ce.callS (ct_X1_requireState l g hl0 false ) X ht hL hl sb_X1_requireState q1341 rfl rfl (Nat.le_of_ble_eq_true rfl) dX1_goBack_21 ⟨Nat.le_of_ble_eq_true rfl, Nat.le_of_ble_eq_true rfl⟩ (by omega) (by omega) trivial (fun E1 H1 hx => OpX.n2 (s_gb_2 hc hvc (by omega) (slot_no hB (by omega) hzv)) hx.1 (hsk.ext hx.2.2).x (hC.trans hx.2.2.chg)) (fun r H locs hL hp => ?_)
    exact absurd hp.2.2 (by decide)
  ·
    refine r_qld (k := 5) X hsl rfl v.toNatClampNeg (nI_cl (by omega) rfl) (nI_nn (by omega) rfl) (by omega) dX1_goBack_12 ?_
    rw [show va_rf (fs v.toNatClampNeg) = .ref w from by rw [hzv]; rfl]
    refine lv_ifnull hx hb dX1_goBack_13 ?_
    refine lv_iconst (v := nI 1) hx hb dX1_goBack_16 (by decide) ?_
    refine lv_goto (tgt := 21) hx hb dX1_goBack_17 (by decide) ?_
    refine Ce.callS (ct_X1_requireState l g hl0 true ) X ht hL hl sb_X1_requireState q1341 rfl rfl (Nat.le_of_ble_eq_true rfl) dX1_goBack_21 ⟨Nat.le_of_ble_eq_true rfl, Nat.le_of_ble_eq_true rfl⟩ (by omega) (by omega) trivial (fun E1 H1 hx => OpX.x2 (absurd hx.2.1 (by decide)) hx.1 (hsk.ext hx.2.2).x (hC.trans hx.2.2.chg)) (fun r H locs hL hp => ?_)
    obtain ⟨rfl, hHH, hv⟩ := hp
    subst hHH
    have hfl := slot_yes hB (by omega) hzv
    refine lv_aload_n hx hb dX1_goBack_24 rfl (lv_at hl 0 rfl) ?_
    obtain ⟨Ko, sta, dq, sl, bf, xs, fs, hh, hKo⟩ := id hsk
    have hKo0 := hKo.1
    obtain ⟨⟨⟨ob, -⟩, -⟩, -⟩ := hKo.2.2
    refine Ct.callV (ct_X1_save l g F S n st ln hf hs o Ko sta dq sl bf xs fs hh ) X hL hl vb_X1_save q301 (ob.recv hKV rfl) rfl rfl (Nat.le_of_ble_eq_true rfl) dX1_goBack_25 ⟨Nat.le_of_ble_eq_true rfl, Nat.le_of_ble_eq_true rfl⟩ (by omega) (by omega) hKo (fun r H locs hL hp => ?_)
    obtain ⟨rfl, K, xs, ⟨hK0, hFs, hB, hS, hJ⟩, hKK, hC1⟩ := hp
    have hC := hC.trans (hC1.mono (fun q hq y => by have hq : Ko q = 2 := hq; have := hKo0 q (Or.inr y); omega))
    obtain ⟨⟨ob, k1, k2, nos, loo, los⟩, hdq, hbf, hsl, hxq, hxi, hsv⟩ := id hB
    have hnF : ∀ q, K q ≠ 0 → ¬ F q := fun q hq y => hq (hK0 q (Or.inr y))
    obtain ⟨w, m, hzv, hw1, hw2, hw⟩ := slot_at hB (by omega) hfl
    obtain ⟨hRO, x, hst⟩ := id hw
    obtain ⟨z, hz⟩ : ∃ z, H.size = z := ⟨_, rfl⟩
    have hszl := ob.lt
    refine lv_aload_n hx hb dX1_goBack_28 rfl (lv_at hl 0 rfl) ?_
    refine lv_aload_n hx hb dX1_goBack_29 rfl (lv_at hl 0 rfl) ?_
    refine r_get (C := RX1) (T := TX1) (N := 5) (ci := 1) X in_X1 rfl 2 (Nat.le_of_ble_eq_true rfl) q282 (fun _ h => h) ob rfl dX1_goBack_30 ?_
    refine lv_iload_n hx hb dX1_goBack_33 rfl (lv_at hl 1 rfl) ?_
    refine W.stk (w := (nI v.toNatClampNeg)) hvc ?_
    refine r_qld (k := 5) X hsl rfl v.toNatClampNeg (nI_cl (by omega) rfl) (nI_nn (by omega) rfl) (by omega) dX1_goBack_34 ?_
    rw [show va_rf (fs v.toNatClampNeg) = .ref w from by rw [hzv]; rfl]
    refine Ct.callV (ct_X2_twin l g (fun q => K q = 5 + w) (fun q => K q = 4 ∧ q < z) (fun i => S.1 3 (179 * v.toNatClampNeg + i)) m x w ) X hL hl vb_X2_twin q326 (hst.recv hKV) rfl rfl (Nat.le_of_ble_eq_true rfl) dX1_goBack_35 ⟨Nat.le_of_ble_eq_true rfl, Nat.le_of_ble_eq_true rfl⟩ (by omega) (by omega) (hst.mono (fun q a _ => a) (fun q a b => ⟨a, by omega⟩)) (fun r H locs hL hp => ?_)
    obtain ⟨t, htw, rfl, hE1⟩ := hp
    rw [hz] at htw
    have htl := htw.lt
    have htz := htw.facts.1
    obtain ⟨K1, ka, kb⟩ : ∃ K1 : Nat → Nat, (∀ q, q < z → K1 q = K q) ∧ ∀ q, z ≤ q → K1 q = 5 + t := ⟨fun q => if q < z then K q else 5 + t, fun q h => if_pos h, fun q h => if_neg (by omega)⟩
    have hre : ∀ q, q < z → K q = K1 q := fun q hq => (ka q hq).symm
    have ht : StK g K1 (fun i => S.1 3 (179 * v.toNatClampNeg + i)) m t H := ⟨hRO, x, htw.mono (fun q a b => kb q a) (fun q a b => by show K1 q = 4; rw [ka q a.2]; exact a.1)⟩
    have hB0 := hB
    have hB := (hB.re (fun q hq => hre q (by omega))).ext hE1
    have hS := (hS.re (fun q hq => hre q (by omega))).ext hE1
    have ob := ob.ext hE1
    have hC := hC.trans hE1.chg
    have hK1 : ∀ q, (q < gLo g ∨ F q) → K1 q = 0 := fun q hq => by rw [ka q (hq.elim (fun y => by omega) (fun y => by have := hFs q y; omega))]; exact hK0 q hq
    have hFs : ∀ q, F q → q < H.size := fun q hq => Nat.lt_of_lt_of_le (hFs q hq) (by have := hE1.1; omega)
    have hB2 := hB
    refine r_put (C := RX1) (T := TX1) (N := 5) (ci := 1) X in_X1 tyX1 tyX1_ok nmX1 rfl 0 (Nat.le_of_ble_eq_true rfl) q280 (fun _ h => h) rfl hL ob loo rfl rfl (Nat.le_of_ble_eq_true rfl) dX1_goBack_38 (fun H locs hL h1 h2 => ?_)
    have ob : Ob g o 1 [.ref t, .ref dq, .ref sl, .ref bf, .long hh] H := h1
    have hC1 : Chg (fun q => q = o) _ H := h2.chg rfl
    have kS : ∀ q, K1 q ≠ 1 → ¬ q = o := fun q hq e => hq (by rw [e, ka _ (by omega)]; exact k1)
    have hB1 := hB.sta' hC1 ob (fun j hj y => by obtain ⟨m2, hm⟩ := (hxq j hj).2; have := hm.facts.2.2.2.1; omega) (fun q u hq e y => by have := slot_lt hB0 hq e; omega) hgE
    have hS1 := ht.keep hC1 (fun q hq => kS q (by omega)) (fun q hq => kS q (by omega)) (by omega)
    have hfin : SkR g F (upR S st (setI (S.1 0) 179 (fun j => S.1 3 (179 * v.toNatClampNeg + j)))) m (recN st + 1) ln hf hs o H := ⟨K1, t, dq, sl, bf, xs, fs, hh, hK1, fun q hq => Nat.lt_of_lt_of_le (hFs q hq) hC1.1, hB1, hS1.row (fun i hi => (setI_l (f := S.1 0) (p := fun j => S.1 3 (179 * v.toNatClampNeg + j)) hi).symm), hJ⟩
    have hC := hC.trans (h2.chg (P := (fun q => ¬ F q)) (fun y => by have := hK0 _ (Or.inr y); omega))
    exact vx_ret (r_vret X hL dX1_goBack_41 (by omega) (by omega) (OpP.mk (s_gb_0 hc hvc (by omega) hfl) rfl hfin.x hC))
theorem vb_X1_goBack : VB yX1_goBack cX1_goBack 2 none 1 := ⟨q1523, q1524, q99, q1525, ⟨by decide, by decide, by decide +kernel⟩⟩

set_option maxRecDepth 100000 in
set_option maxHeartbeats 4000000 in
theorem ct_X1_undo (l : Launch) (g : GT) (F : Nat → Prop) (S : MS) (n st ln : Nat) (hf hs : Bool) (o : Nat) (hl0 : l.stackTraces = false) : Ce l g yX1_undo cX1_undo 1 none 9 1 6 [.ref o] (SkR g F S n st ln hf hs o) (OpP g F o (s_undo S st)) (OpX g F o "java/lang/IllegalStateException" "" (s_undo S st)) := by
  refine Ce.of (by decide) (Nat.le_of_ble_eq_true rfl) ?_
  intro p e s m args below meth c X ht hP ls hl
  have hx := X.1
  have hb := X.2.1
  have hKV := X.2.2.2.2.2.2.2.1.1
  have hL : ∀ q ∈ ([] : List Loc), gLo g ≤ q.base := fun _ h => by cases h
  have hsk := hP
  have hgE := hKV.gE
  have hl : lv_has ls 1 [(0, .ref o)] := hl
  have hC : Chg (fun q => ¬ F q) s.heap s.heap := Chg.rfl'
  obtain ⟨K, sta, dq, sl, bf, xs, fs, hh, hK0, hFs, hB, hS, hJ⟩ := id hsk
  obtain ⟨⟨ob, k1, k2, nos, loo, los⟩, hdq, hbf, hsl, hxq, hxi, hsv⟩ := id hB
  have hKE : K (gE g) = 0 := hK0 _ (Or.inl hgE)
  have hnF : ∀ q, K q ≠ 0 → ¬ F q := fun q hq y => hq (hK0 q (Or.inr y))
  refine lv_aload_n hx hb dX1_undo_0 rfl (lv_at hl 0 rfl) ?_
  refine r_get (C := RX1) (T := TX1) (N := 5) (ci := 1) X in_X1 rfl 1 (Nat.le_of_ble_eq_true rfl) q281 (fun _ h => h) ob rfl dX1_undo_1 ?_
  refine Cp.callV (v := .int (bI (decide (st = 0)))) (ct_J3_isEmpty l g (fun q => K q = 2) xs st dq ) X hL hl vb_J3_isEmpty q1533 (hdq.recv hKV) rfl rfl (Nat.le_of_ble_eq_true rfl) dX1_undo_4 ⟨Nat.le_of_ble_eq_true rfl, Nat.le_of_ble_eq_true rfl⟩ (by omega) (by omega) hdq (fun locs hL => ?_)
  refine b_ifne (tgt := 14) X dX1_undo_7 (by decide) (fun c_7 => ?_) (fun c_7 => ?_)
  ·
    refine lv_iconst (v := nI 0) hx hb dX1_undo_14 (by decide) ?_
    refine Ce.callS (ct_X1_requireState l g hl0 false ) X ht hL hl sb_X1_requireState q1341 rfl rfl (Nat.le_of_ble_eq_true rfl) dX1_undo_15 ⟨Nat.le_of_ble_eq_true rfl, Nat.le_of_ble_eq_true rfl⟩ (by omega) (by omega) trivial (fun E1 H1 hx => OpX.n1 (s_ud_1 (of_decide_eq_true c_7)) hx.1 (hsk.ext hx.2.2).x (hC.trans hx.2.2.chg)) (fun r H locs hL hp => ?_)
    exact absurd hp.2.2 (by decide)
  ·
    refine lv_iconst (v := nI 1) hx hb dX1_undo_10 (by decide) ?_
    refine lv_goto (tgt := 15) hx hb dX1_undo_11 (by decide) ?_
    refine Ce.callS (ct_X1_requireState l g hl0 true ) X ht hL hl sb_X1_requireState q1341 rfl rfl (Nat.le_of_ble_eq_true rfl) dX1_undo_15 ⟨Nat.le_of_ble_eq_true rfl, Nat.le_of_ble_eq_true rfl⟩ (by omega) (by omega) trivial (fun E1 H1 hx => OpX.x1 (absurd hx.2.1 (by decide)) hx.1 (hsk.ext hx.2.2).x (hC.trans hx.2.2.chg)) (fun r H locs hL hp => ?_)
    obtain ⟨rfl, hHH, hv⟩ := hp
    subst hHH
    have hs0 : ¬ st = 0 := of_decide_eq_false c_7
    obtain ⟨s1, rfl⟩ : ∃ s1, st = s1 + 1 := ⟨st - 1, by omega⟩
    obtain ⟨mx, hmx⟩ := (hxq 0 (by omega)).2
    obtain ⟨-, x0, hx00⟩ := id hmx
    obtain ⟨bx, sdx, SSx, -, -, -, -, otx, -⟩ := hx00
    refine lv_aload_n hx hb dX1_undo_18 rfl (lv_at hl 0 rfl) ?_
    refine lv_aload_n hx hb dX1_undo_19 rfl (lv_at hl 0 rfl) ?_
    refine r_get (C := RX1) (T := TX1) (N := 5) (ci := 1) X in_X1 rfl 1 (Nat.le_of_ble_eq_true rfl) q281 (fun _ h => h) ob rfl dX1_undo_20 ?_
    refine Ct.callV (ct_J3_pop l g (fun q => K q = 2) xs (s1 + 1) dq (Nat.succ_pos _)) X hL hl vb_J3_pop q1537 (hdq.recv hKV) rfl rfl (Nat.le_of_ble_eq_true rfl) dX1_undo_23 ⟨Nat.le_of_ble_eq_true rfl, Nat.le_of_ble_eq_true rfl⟩ (by omega) (by omega) hdq (fun r H locs hL hp => ?_)
    obtain ⟨rfl, hdq, hC1⟩ := hp
    have ob := ob.chg hC1 (fun y => by have y : K o = 2 := y; omega)
    have otx := otx.chg hC1 (fun y => by have y : K (xs 0) = 2 := y; have := hmx.facts.2.2.2.2.1; omega)
    have hCd := hC1
    have hC := hC.trans (hC1.mono (fun q hq => hnF q (by have hq : K q = 2 := hq; omega)))
    refine r_cast (ci := 2) X rfl otx q140 dX1_undo_26 ?_
    refine r_put (C := RX1) (T := TX1) (N := 5) (ci := 1) X in_X1 tyX1 tyX1_ok nmX1 rfl 0 (Nat.le_of_ble_eq_true rfl) q280 (fun _ h => h) rfl hL ob loo rfl rfl (Nat.le_of_ble_eq_true rfl) dX1_undo_29 (fun H locs hL h1 h2 => ?_)
    have ob : Ob g o 1 [.ref (xs 0), .ref dq, .ref sl, .ref bf, .long hh] H := h1
    have hU := hB.undo hCd hdq (h2.chg rfl) ob hKE hgE
    obtain ⟨hB1, m1, hS1⟩ := hU
    have hfin : SkR g F (uS (uA S 0 (setI (S.1 0) 179 (fun j => S.1 2 (179 * s1 + j)))) 12 (nI s1)) m1 s1 ln hf hs o H := ⟨K, xs 0, dq, sl, bf, _, fs, hh, hK0, fun q hq => Nat.lt_of_lt_of_le (hFs q hq) (Nat.le_trans hCd.1 (Nat.le_of_eq h2.1.symm)), hB1, hS1.row (fun i hi => (setI_l (f := S.1 0) (p := fun j => S.1 2 (179 * s1 + j)) hi).symm), rfl, hJ.2⟩
    have hC := hC.trans (h2.chg (P := (fun q => ¬ F q)) (fun y => by have := hK0 _ (Or.inr y); omega))
    exact vx_ret (r_vret X hL dX1_undo_32 (by omega) (by omega) (OpP.mk (s_ud_0 s1) rfl hfin.x hC))
theorem vb_X1_undo : VB yX1_undo cX1_undo 1 none 0 := ⟨q1530, q1531, q99, q1532, ⟨by decide, by decide, by decide +kernel⟩⟩
