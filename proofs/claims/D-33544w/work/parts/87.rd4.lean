/-! the reader: the whole, and what it does to a state -/
section NCALLX
variable {p : Program} {l : Launch} {e : Env} {R : Room} {s : State} {m : MethodId} {args : Array Value} {below : List Frame} {meth : Method} {c : Code} {H : Heap} {locs : List Loc} {cells slots mc ms d : Nat} {Q : State → Prop}
variable {cc cc' : ByteArray} {nL pc maxL n index mc' ms' d' : Nat} {ls : Array Slot} {y y' : MethodName} {ret ret' : Option FieldType} {g : GT} {P : Heap → Prop} {Po Po0 : Option Value → Heap → Heap → Prop} {PX PX' : String → Heap → Heap → Prop} {b : Nat} {As rest : List Value} {st : List Value} {lv : List (Nat × Value)} {host : String}
theorem Ce.callSN (hM : Ce l g y' cc' maxL ret' d' mc' ms' As P Po PX') (X : Cx p g s m args meth c cc nL y ret) (ht : ∀ x ∈ c.exceptionTable.toList, False) (hL : ∀ q ∈ locs, gLo g ≤ q.base) (hl : lv_has ls nL lv) (hV : SB y' cc' maxL ret' n) (hlink : Cond.methodLinkNest y.cls index y' host ∈ lw_tbl)
    (hn : As.length = n) (hst : st = As.reverse ++ rest) (hW : (rest.map fun v => v.category).sum ≤ 8) (hdg : decode cc pc = .ok (.invokestatic index, 3))
    (hR : d' + 1 ≤ d ∧ 8 + (maxL + 11) ≤ 64) (hc : cells + mc' ≤ mc) (hs : slots + ms' ≤ ms) (hP : P H) (kx : ∀ E H1, PX' E H H1 → PX E s.heap H1)
    (kk : ∀ (r : Option Value) (H1 : Heap) (locs1 : List Loc), (∀ q ∈ locs1, gLo g ≤ q.base) → Po r H H1 → W p l e (rmL d mc ms) s m args below meth c H1 locs1 (cells + mc') (slots + ms') (vx_MQ below (Qcg Po0) (XCg PX) args s mc ms (fre g)) (F0 m (pc + 3) ls (r.toList ++ rest))) :
    W p l e (rmL d mc ms) s m args below meth c H locs cells slots (vx_MQ below (Qcg Po0) (XCg PX) args s mc ms (fre g)) (F0 m pc ls st) := by
  have X0 := X
  obtain ⟨hx, hb, hml, hown, hts, hrt, hlk, ⟨hKV, hB⟩, hnm⟩ := X
  obtain ⟨v1, v2, v3, v4⟩ := hV
  intro T hT XT
  have hBH : Base g H := by rw [← hT]; exact base_at XT hL hB
  have hR' : (rmL d' mc' ms').frames + 1 ≤ (rmL d mc ms).frames ∧ 8 + (maxL + 11) + (rmL d' mc' ms').locals ≤ (rmL d mc ms).locals := by
    refine ⟨hR.1, ?_⟩
    show 8 + (maxL + 11) + (4096 + 64 * d') ≤ 4096 + 64 * d
    omega
  exact runX_go hL (vx_runSN (index := index) (As := As) (n := n) (Ts := lw_all) (host := host) ⟨hx, hb, hml, hown, hts⟩ hM ⟨va_cnB n hts (lw_meth v3) rfl rfl rfl (hKV.2.1 _ (List.mem_filter.mpr ⟨hlink, rfl⟩)) (hts _ v2) v4 hR', hts _ v1, trivial⟩ ⟨Pcg.blind, fun U hU hW => ⟨rfl, ⟨hKV.warm hW, by rw [hU]; exact hBH⟩, by rw [hU]; exact hP⟩⟩ rfl hn hl.1 hst (by show 2 * 0 + _ ≤ 8; omega) hdg ⟨hc, hs⟩) (fun E ce q H1 locs1 hL1 hp hce hcv hcl => r_out X0 ht hL1 hce hcv hcl hc hs (kx E H1 hp)) kk T hT XT
end NCALLX
theorem fau_no {f : Nat → Int32} {n k i : Nat} (h : (ptS f n i).1 = false) : fauG f n (k + 1) i = (nI (ptS f n i).2, (ptS f n i).2) := by rw [fauG, h, if_neg (by decide)]
theorem fau_end {f : Nat → Int32} {n k i : Nat} (h : (ptS f n i).1 = true) (h2 : (ptS f n i).2 = n) : fauG f n (k + 1) i = ((-1), (ptS f n i).2) := by rw [fauG, if_pos h, if_pos h2]
theorem fau_bad {f : Nat → Int32} {n k i : Nat} (h : (ptS f n i).1 = true) (h2 : ¬ (ptS f n i).2 = n) (h3 : (pS f n (ptS f n i).2 59 59).1 = false) : fauG f n (k + 1) i = (nI (ptS f n i).2, (ptS f n i).2) := by
  rw [fau_more h h2, h3, if_neg (by decide), pS_f h3]
theorem fau_next {f : Nat → Int32} {n k i : Nat} (h : (ptS f n i).1 = true) (h3 : (pS f n (ptS f n i).2 59 59).1 = true) : fauG f n (k + 1) i = fauG f n k ((ptS f n i).2 + 1) := by
  have h2 : ¬ (ptS f n i).2 = n := fun e => by have := (pS_t h3).2; omega
  rw [fau_more h h2, if_pos h3, (pS_t h3).1]
theorem StR.mono {g : GT} {P I P1 I1 : Nat → Prop} {r : Nat → Int32} {n : Nat} {x : Nat → Nat} {a : Nat} {H : Heap} (h : StR g P I r n x a H) (hP : ∀ q, P q → q < H.size → P1 q) (hI : ∀ q, I q → q < H.size → I1 q) : StR g P1 I1 r n x a H := by
  obtain ⟨b, sd, S, h1, h2, h3, h4, h5, h6, h7, h8, h9⟩ := h
  exact ⟨b, sd, S, hP _ h1 h5.lt, h2, h3, fun q hq => ⟨hP _ (h4 q hq).1 (h4 q hq).2, (h4 q hq).2⟩, h5, h6.bnd.to (fun _ _ => rfl) (fun q hq => ⟨hP _ hq.1.1 hq.2, hq.1.2⟩), h7, fun j hj => (h8 j hj).bnd.to (fun _ _ => rfl) (fun q hq => hI q hq.1 hq.2), h9⟩
theorem StR.lt {g : GT} {P I : Nat → Prop} {r : Nat → Int32} {n : Nat} {x : Nat → Nat} {a : Nat} {H : Heap} (h : StR g P I r n x a H) : a < H.size := by
  obtain ⟨b, sd, S, h1, h2, h3, h4, h5, h6⟩ := h
  exact h5.lt
theorem StR.recv {g : GT} {s : State} {P I : Nat → Prop} {r : Nat → Int32} {n : Nat} {x : Nat → Nat} {a : Nat} {H : Heap} (h : StR g P I r n x a H) (hK : KV g s) : ∃ cellB : Cell, H[a]? = some cellB ∧ cellB.vm.isStatics = false ∧ s.vm.findClass RX2 = some cellB.cls := by
  obtain ⟨b, sd, S, h1, h2, h3, h4, h5, h6⟩ := h
  exact h5.recv hK rfl
/-- a state all of whose cells are z or later, apart from E; its offers may be older ones -/
def ThW (g : GT) (E I0 : Nat → Prop) (z : Nat) (r : Nat → Int32) (N t : Nat) (H : Heap) : Prop := ∃ (P I : Nat → Prop) (x : Nat → Nat), StR g P I r N x t H ∧ (∀ q, P q → z ≤ q ∧ ¬ E q ∧ q < H.size) ∧ (∀ q, I q → (I0 q ∨ (z ≤ q ∧ ¬ E q)) ∧ ¬ P q ∧ q < H.size)
theorem ThW.mk {g : GT} {E I0 P I : Nat → Prop} {z : Nat} {r : Nat → Int32} {N t : Nat} {x : Nat → Nat} {H : Heap} (h : StR g P I r N x t H) (h1 : ∀ q, P q → q < H.size → z ≤ q ∧ ¬ E q) (h2 : ∀ q, I q → q < H.size → (I0 q ∨ (z ≤ q ∧ ¬ E q)) ∧ ¬ P q) : ThW g E I0 z r N t H :=
  ⟨fun q => P q ∧ q < H.size, fun q => I q ∧ q < H.size, x, h.mono (fun _ a b => ⟨a, b⟩) (fun _ a b => ⟨a, b⟩), fun q hq => ⟨(h1 q hq.1 hq.2).1, (h1 q hq.1 hq.2).2, hq.2⟩, fun q hq => ⟨(h2 q hq.1 hq.2).1, fun y => (h2 q hq.1 hq.2).2 y.1, hq.2⟩⟩
theorem ThW.keep {g : GT} {E I0 : Nat → Prop} {z : Nat} {r : Nat → Int32} {N t : Nat} {H H1 : Heap} (h : ThW g E I0 z r N t H) (c : Chg E H H1) (hE : ¬ E (gE g)) (hI : ∀ q, I0 q → ¬ E q) : ThW g E I0 z r N t H1 := by
  obtain ⟨P, I, x, h1, h2, h3⟩ := h
  exact ⟨P, I, x, h1.keep c (fun q hq => (h2 q hq).2.1) (fun q hq => (h3 q hq).1.elim (hI q) (fun y => y.2)) hE, fun q hq => ⟨(h2 q hq).1, (h2 q hq).2.1, Nat.lt_of_lt_of_le (h2 q hq).2.2 c.1⟩, fun q hq => ⟨(h3 q hq).1, (h3 q hq).2.1, Nat.lt_of_lt_of_le (h3 q hq).2.2 c.1⟩⟩
theorem ThW.ext {g : GT} {E I0 : Nat → Prop} {z : Nat} {r : Nat → Int32} {N t : Nat} {H H1 : Heap} (h : ThW g E I0 z r N t H) (c : Ext H H1) : ThW g E I0 z r N t H1 := by
  obtain ⟨P, I, x, h1, h2, h3⟩ := h
  exact ⟨P, I, x, h1.ext c, fun q hq => ⟨(h2 q hq).1, (h2 q hq).2.1, Nat.lt_of_lt_of_le (h2 q hq).2.2 c.1⟩, fun q hq => ⟨(h3 q hq).1, (h3 q hq).2.1, Nat.lt_of_lt_of_le (h3 q hq).2.2 c.1⟩⟩
theorem ThW.q {g : GT} {E I0 : Nat → Prop} {z : Nat} {r : Nat → Int32} {N t : Nat} {H : Heap} (h : ThW g E I0 z r N t H) : ∃ x, StQ g r N x t H := by
  obtain ⟨P, I, x, h1, h2, h3⟩ := h
  exact ⟨x, h1.q⟩
theorem ThW.n {g : GT} {E I0 : Nat → Prop} {z : Nat} {r : Nat → Int32} {N t : Nat} {H : Heap} (h : ThW g E I0 z r N t H) : N ≤ 40 := by
  obtain ⟨P, I, x, h1, h2, h3⟩ := h
  exact h1.facts.2.2.2.2.2
theorem fol_a {f : Nat → Int32} {n i : Nat} {r : Nat → Int32} {N : Nat} (e : f i = nI 97) : folR f n i r N = if N < 40 then (true, addR r N (nbI f n (i + 1) 99) (nbI f n (a1N f n i + 1) 99) (nbI f n (a1N f n (a1N f n i) + 1) 99) (nbI f n (a1N f n (a1N f n (a1N f n i)) + 1) 99), N + 1) else (false, r, N) := by unfold folR; rw [if_pos e]
theorem fol_r {f : Nat → Int32} {n i : Nat} {r : Nat → Int32} {N : Nat} (e : f i = nI 114) : folR f n i r N = if noB N (nbI f n (i + 1) 39) then (false, r, N) else (true, delR r N (nbI f n (i + 1) 39).toNatClampNeg, N - 1) := by
  unfold folR; rw [if_neg (by rw [e]; decide), if_pos e]
theorem fol_w {f : Nat → Int32} {n i : Nat} {r : Nat → Int32} {N : Nat} (e : f i = nI 119) : folR f n i r N = (true, upd r (161 + sdN f i) (wiI f i), N) := by
  unfold folR; rw [if_neg (by rw [e]; decide), if_neg (by rw [e]; decide), if_pos e]
theorem fol_b {f : Nat → Int32} {n i : Nat} {r : Nat → Int32} {N : Nat} (e : f i = nI 98) : folR f n i r N = (true, upd (upd r (165 + sdN f i) (nbI f n (i + 3) 99)) (169 + sdN f i) (numI f (a1N f n (i + 2) + 1) ((ptS f n i).2 - (a1N f n (i + 2) + 1))), N) := by
  unfold folR; rw [if_neg (by rw [e]; decide), if_neg (by rw [e]; decide), if_neg (by rw [e]; decide)]
theorem fol_a1 {f : Nat → Int32} {n i : Nat} {r : Nat → Int32} {N : Nat} (e : f i = nI 97) : (folR f n i r N).1 = decide (N < 40) := by
  rw [fol_a e]; by_cases q : N < 40
  · rw [if_pos q, decide_eq_true q]
  · rw [if_neg q, decide_eq_false q]
theorem fol_r1 {f : Nat → Int32} {n i : Nat} {r : Nat → Int32} {N : Nat} (e : f i = nI 114) : (folR f n i r N).1 = !noB N (nbI f n (i + 1) 39) := by
  rw [fol_r e]; cases q : noB N (nbI f n (i + 1) 39) <;> rfl
theorem folG_s {f : Nat → Int32} {n k i : Nat} {r : Nat → Int32} {N : Nat} (hi : i < n) (h : (folR f n i r N).1 = true) : folG f n (k + 1) i r N = folG f n k ((ptS f n i).2 + 1) (folR f n i r N).2.1 (folR f n i r N).2.2 := by
  rw [folG, if_pos hi, if_pos h]
theorem folG_n {f : Nat → Int32} {n k i : Nat} {r : Nat → Int32} {N : Nat} (hi : i < n) (h : (folR f n i r N).1 = false) : (folG f n (k + 1) i r N).1 = false := by
  rw [folG, if_pos hi, h, if_neg (by decide)]
theorem all_next {f : Nat → Int32} {n i k : Nat} (hn : n ≤ 60) (h : (fauG f n (k + 1) i).1 = (-1)) (hi : i < n) (hk : n ≤ i + k) (y : (pS f n (ptS f n i).2 59 59).1 = true) : (fauG f n (k - 1 + 1) ((ptS f n i).2 + 1)).1 = (-1) ∧ (ptS f n ((ptS f n i).2 + 1)).1 = true ∧ (ptS f n i).2 + 1 < n := by
  have hp := fau_inv hn (Nat.le_of_lt hi) h
  have hl := (pS_t y).2
  have e := fau_next (k := k) hp.1 y
  rw [e] at h
  have hj := ptS_lt (Nat.le_of_lt hi) hp.1
  have h1 : (fauG f n (k - 1 + 1) ((ptS f n i).2 + 1)).1 = (-1) := by rw [show k - 1 + 1 = k by omega]; exact h
  have h2 := (fau_inv hn (by omega) h1).1
  exact ⟨h1, h2, (pt_inv h2).1⟩

set_option maxRecDepth 100000 in
set_option maxHeartbeats 4000000 in
theorem ct_X7_init (l : Launch) (g : GT) (a o : Nat) (l1 : gLo g ≤ a) : Ct l g yX7_init cX7_init 2 none 2 1 4 [.ref a, .ref o] (Ob g a 6 [.int 0, .int 0, .int 0, .null, .null]) (fun r H H1 => r = none ∧ (∃ ta, Ob g a 6 [.int 0, .int 0, .int 0, .ref ta, .ref o] H1 ∧ Ar g ta 0 4 (fun _ => 0) H1 ∧ H.size ≤ ta) ∧ Chg (fun q => q = a ∨ H.size ≤ q) H H1) := by
  refine Ct.of (by decide) (Nat.le_of_ble_eq_true rfl) ?_
  intro p e s m args below meth c X hP ls hl
  have hx := X.1
  have hb := X.2.1
  have hKV := X.2.2.2.2.2.2.2.1.1
  have hL : ∀ q ∈ ([] : List Loc), gLo g ≤ q.base := fun _ h => by cases h
  have ob := hP
  have hal := ob.lt
  have hl : lv_has ls 2 [(0, .ref a), (1, .ref o)] := hl
  have hC : Chg (fun q => q = a ∨ s.heap.size ≤ q) s.heap s.heap := Chg.rfl'
  refine lv_aload_n hx hb dX7_init_0 rfl (lv_at hl 0 rfl) ?_
  refine lv_aload_n hx hb dX7_init_1 rfl (lv_at hl 1 rfl) ?_
  refine r_putF (C := RX7) (T := TX7) (N := 5) (ci := 6) X in_X7 tyX7 tyX7_ok nmX7 rfl 4 (Nat.le_of_ble_eq_true rfl) q912 (fun _ h => h) rfl rfl rfl hL ob l1 rfl rfl (Nat.le_of_ble_eq_true rfl) dX7_init_2 (fun H locs hL h1 h2 => ?_)
  have ob : Ob g a 6 [.int 0, .int 0, .int 0, .null, .ref o] H := h1
  have hC := hC.trans (h2.chg (Or.inl rfl))
  refine lv_aload_n hx hb dX7_init_5 rfl (lv_at hl 0 rfl) ?_
  refine W.objInit hx hb X.2.2.2.1 (X.2.2.2.2.1 _ q906) (X.2.2.2.2.1 _ q138) (X.2.2.2.2.1 _ q139) rfl (hl.1.trans X.2.2.1.symm) rfl dX7_init_6 (Nat.le_of_ble_eq_true rfl) (Nat.le_of_ble_eq_true rfl) ?_
  refine lv_aload_n hx hb dX7_init_9 rfl (lv_at hl 0 rfl) ?_
  refine lv_iconst (v := nI 4) hx hb dX7_init_10 (by decide) ?_
  obtain ⟨b1, hb1⟩ : ∃ b, H.size = b := ⟨_, rfl⟩
  have sz_b1 : s.heap.size ≤ b1 := by rw [← hb1]; exact hC.1
  have lo_b1 : gLo g ≤ b1 := Nat.le_trans X.2.2.2.2.2.2.2.1.2.1 sz_b1
  have p_b1 : (fun q => q = a ∨ s.heap.size ≤ q) b1 := (fun q hq => Or.inr hq : ∀ q, s.heap.size ≤ q → (q = a ∨ s.heap.size ≤ q)) b1 sz_b1
  have ne_a_b1 : a ≠ b1 := Nat.ne_of_lt (by rw [← hb1]; exact ob.lt)
  refine r_newa (atype := .int) (k := 0) (ty := .int) X q209 rfl rfl (fun _ _ => rfl) (x := (nI 4)) (N' := 4) (4, .inl (fun _ => 0)) (fun _ => rfl) (nI_pos (by omega)) (nI_clamp (by omega)) (by show 4 * 4 ≤ 536870912; omega) (by show _ + 1 ≤ 1; omega) (by show _ + 4 ≤ 4; omega) dX7_init_11 (fun H ha_b1 hE_b1 hz_b1 => ?_)
  rw [hb1] at ha_b1 hz_b1 ⊢
  have ob := ob.ext hE_b1
  have hC := hC.trans hE_b1.chg
  have ha_b1 : Ar g b1 0 4 (fun _ => 0) H := ha_b1
  refine r_putF (C := RX7) (T := TX7) (N := 5) (ci := 6) X in_X7 tyX7 tyX7_ok nmX7 rfl 3 (Nat.le_of_ble_eq_true rfl) q911 (fun _ h => h) rfl rfl rfl hL ob l1 rfl rfl (Nat.le_of_ble_eq_true rfl) dX7_init_13 (fun H locs hL h1 h2 => ?_)
  have ob : Ob g a 6 [.int 0, .int 0, .int 0, .ref b1, .ref o] H := h1
  have ha_b1 := ha_b1.on h2 (Ne.symm ne_a_b1)
  have hC := hC.trans (h2.chg (Or.inl rfl))
  exact r_vret X hL dX7_init_16 (by omega) (by omega) ⟨rfl, ⟨b1, ob, ha_b1, sz_b1⟩, hC⟩
theorem ib_X7_init : IB yX7_init cX7_init 2 1 := ⟨q904, q130, q905, rfl, ⟨by decide, by decide, by decide +kernel⟩⟩

set_option maxRecDepth 100000 in
set_option maxHeartbeats 4000000 in
theorem ct_X7_isWhole (l : Launch) (g : GT) (PB : Nat → Prop) (f : Nat → Int32) (n i : Nat) (w sd : Int32) (tf : Nat → Int32) (rd ta o st dq sl bf : Nat) (hs : Int64) (hF : RdF g PB rd ta o) (hin : i ≤ n) : Ct l g yX7_isWhole cX7_isWhole 2 (some .boolean) 10 0 0 [.ref rd] (RdX g PB f n i w sd tf rd ta o st dq sl bf hs) (fun r H H1 => r = some (.int (bI (decide ((fauG f n (n + 1) i).1 = (-1))))) ∧ (∃ w1 sd1 tf1, RdX g PB f n (fauG f n (n + 1) i).2 w1 sd1 tf1 rd ta o st dq sl bf hs H1) ∧ Chg (fun q => q = rd ∨ q = ta) H H1) := by
  refine Ct.of (by decide) (Nat.le_of_ble_eq_true rfl) ?_
  intro p e s m args below meth c X hP ls hl
  have hx := X.1
  have hb := X.2.1
  have hKV := X.2.2.2.2.2.2.2.1.1
  have hL : ∀ q ∈ ([] : List Loc), gLo g ≤ q.base := fun _ h => by cases h
  obtain ⟨orr, art, oo, hbf⟩ := hP
  obtain ⟨lrd, lta, n1, n2, n3, n4, n5⟩ := id hF
  have hl : lv_has ls 2 [(0, .ref rd)] := hl
  have hC : Chg (fun q => q = rd ∨ q = ta) s.heap s.heap := Chg.rfl'
  have hdj : ∀ q, PB q → ¬ (q = rd ∨ q = ta) := fun q hq z => z.elim (fun z => n4 (z ▸ hq)) (fun z => n5 (z ▸ hq))
  have hcr := hbf.chr
  refine lv_aload_n hx hb dX7_isWhole_0 rfl (lv_at hl 0 rfl) ?_
  refine Ct.callV (ct_X7_readPart l g PB f n i w sd tf rd ta o st dq sl bf hs hF hin) X hL hl vb_X7_readPart q928 (orr.recv hKV rfl) rfl rfl (Nat.le_of_ble_eq_true rfl) dX7_isWhole_1 ⟨Nat.le_of_ble_eq_true rfl, Nat.le_of_ble_eq_true rfl⟩ (by omega) (by omega) ⟨orr, art, oo, hbf⟩ (fun r H locs hL hp => ?_)
  obtain ⟨rfl, ⟨w1, sd1, tf1, ⟨orr, art, oo, hbf⟩, hpk⟩, hC1⟩ := hp
  have hC := hC.trans hC1
  refine lv_istore_n (lv' := [(1, .int _), (0, .ref _)]) hx hb dX7_isWhole_4 rfl hl (by decide) rfl (fun ls hl => ?_)
  have L5 : ∀ (fuel : Nat) (i1 k1 : Nat) (w2 sd2 : Int32) (tf2 : Nat → Int32), k1 < fuel → (fauG f n (n + 1) i = fauG f n (k1 + 1) i1) → (i1 ≤ n) → (n ≤ i1 + k1) → ∀ (H : Heap), Ob g rd 6 [.int (nI (ptS f n i1).2), .int w2, .int sd2, .ref ta, .ref o] H → Ar g ta 0 4 tf2 H → Ob g o 1 [.ref st, .ref dq, .ref sl, .ref bf, .long hs] H → BufR g PB f n bf H → Chg (fun q => q = rd ∨ q = ta) s.heap H → ∀ (locs : List Loc), (∀ q ∈ locs, gLo g ≤ q.base) → ∀ (ls : Array Slot), lv_has ls 2 [(0, .ref rd), (1, .int (bI ((ptS f n i1).1)))] → W p l e (rmL 10 0 0) s m args below meth c H locs 0 0 (MQ below (Qcg (fun r H H1 => r = some (.int (bI (decide ((fauG f n (n + 1) i).1 = (-1))))) ∧ (∃ w1 sd1 tf1, RdX g PB f n (fauG f n (n + 1) i).2 w1 sd1 tf1 rd ta o st dq sl bf hs H1) ∧ Chg (fun q => q = rd ∨ q = ta) H H1)) args s 0 0 (fre g)) (F0 m 5 ls []) := by
    intro fuel
    induction fuel with
    | zero => intro i1 k1 w2 sd2 tf2 hfu; exact absurd hfu (Nat.not_lt_zero _)
    | succ fuel ih5 =>
      intro i1 k1 w2 sd2 tf2 hfu hfa hi1 hnk H orr art oo hbf hC locs hL ls hl
      have hin := (ptS_b (f := f) hi1).2
      refine lv_iload_n hx hb dX7_isWhole_5 rfl (lv_at hl 1 rfl) ?_
      refine b_ifeq (tgt := 26) X dX7_isWhole_6 (by decide) (fun c_6 => ?_) (fun c_6 => ?_)
      ·
        refine lv_iload_n hx hb dX7_isWhole_26 rfl (lv_at hl 1 rfl) ?_
        refine b_ifeq (tgt := 51) X dX7_isWhole_27 (by decide) (fun c_27 => ?_) (fun c_27 => ?_)
        ·
          refine lv_iconst (v := nI 0) hx hb dX7_isWhole_51 (by decide) ?_
          exact r_iret X hL rfl rfl dX7_isWhole_52 (by omega) (by omega) ⟨v_f (by rw [hfa, fau_no c_6]; exact decide_eq_false (nI_m1 (by omega))), ⟨_, _, _, by rw [hfa, fau_no c_6]; exact ⟨orr, art, oo, hbf⟩⟩, hC⟩
        ·
          exact absurd (c_6.symm.trans c_27) (by decide)
      ·
        refine lv_aload_n hx hb dX7_isWhole_9 rfl (lv_at hl 0 rfl) ?_
        refine lv_bipush (v := nI 59) hx hb dX7_isWhole_10 (by decide) ?_
        refine Ct.callV (ct_X7_isNext l g PB f n ((ptS f n i1).2) w2 sd2 tf2 rd ta o st dq sl bf hs 59 hF hin (by omega) (by omega)) X hL hl vb_X7_isNext q955 (orr.recv hKV rfl) rfl rfl (Nat.le_of_ble_eq_true rfl) dX7_isWhole_12 ⟨Nat.le_of_ble_eq_true rfl, Nat.le_of_ble_eq_true rfl⟩ (by omega) (by omega) ⟨orr, art, oo, hbf⟩ (fun r H locs hL hp => ?_)
        obtain ⟨rfl, ⟨orr, art, oo, hbf⟩, hC1⟩ := hp
        have hC := hC.trans hC1
        have hin := (pS_b (f := f) (a := 59) (b := 59) hin).2
        refine b_ifeq (tgt := 26) X dX7_isWhole_15 (by decide) (fun c_15 => ?_) (fun c_15 => ?_)
        ·
          have y59 := c_15
          rw [pS_f y59] at orr hin
          refine lv_iload_n hx hb dX7_isWhole_26 rfl (lv_at hl 1 rfl) ?_
          refine b_ifeq (tgt := 51) X dX7_isWhole_27 (by decide) (fun c_27 => ?_) (fun c_27 => ?_)
          ·
            exact absurd (c_6.symm.trans c_27) (by decide)
          ·
            refine lv_aload_n hx hb dX7_isWhole_30 rfl (lv_at hl 0 rfl) ?_
            refine r_get (C := RX7) (T := TX7) (N := 5) (ci := 6) X in_X7 rfl 0 (Nat.le_of_ble_eq_true rfl) q907 (fun _ h => h) orr rfl dX7_isWhole_31 ?_
            refine lv_aload_n hx hb dX7_isWhole_34 rfl (lv_at hl 0 rfl) ?_
            refine r_get (C := RX7) (T := TX7) (N := 5) (ci := 6) X in_X7 rfl 4 (Nat.le_of_ble_eq_true rfl) q912 (fun _ h => h) orr rfl dX7_isWhole_35 ?_
            refine r_getN (C := RX1) (T := TX1) (N := 5) (ci := 1) X in_X1 rfl 3 (Nat.le_of_ble_eq_true rfl) q283 (fun _ h => h) oo rfl dX7_isWhole_38 ?_
            refine Cp.callV (v := .int (nI n)) (ct_J5_length l g PB f n bf ) X hL hl vb_J5_length q936 (hbf.recv hKV) rfl rfl (Nat.le_of_ble_eq_true rfl) dX7_isWhole_41 ⟨Nat.le_of_ble_eq_true rfl, Nat.le_of_ble_eq_true rfl⟩ (by omega) (by omega) hbf (fun locs hL => ?_)
            refine n_icmp_ne (tgt := 51) X dX7_isWhole_44 (by decide) (by omega) (by omega) (fun c_44 => ?_) (fun c_44 => ?_)
            ·
              refine lv_iconst (v := nI 0) hx hb dX7_isWhole_51 (by decide) ?_
              exact r_iret X hL rfl rfl dX7_isWhole_52 (by omega) (by omega) ⟨v_f (by rw [hfa, fau_bad c_6 c_44 y59]; exact decide_eq_false (nI_m1 (by omega))), ⟨_, _, _, by rw [hfa, fau_bad c_6 c_44 y59]; exact ⟨orr, art, oo, hbf⟩⟩, hC⟩
            ·
              refine lv_iconst (v := nI 1) hx hb dX7_isWhole_47 (by decide) ?_
              refine lv_goto (tgt := 52) hx hb dX7_isWhole_48 (by decide) ?_
              exact r_iret X hL rfl rfl dX7_isWhole_52 (by omega) (by omega) ⟨v_t (by rw [hfa, fau_end c_6 c_44]; exact decide_eq_true rfl), ⟨_, _, _, by rw [hfa, fau_end c_6 c_44]; exact ⟨orr, art, oo, hbf⟩⟩, hC⟩
        ·
          have y59 := c_15
          rw [(pS_t y59).1] at orr hin
          refine lv_aload_n hx hb dX7_isWhole_18 rfl (lv_at hl 0 rfl) ?_
          refine Ct.callV (ct_X7_readPart l g PB f n ((ptS f n i1).2 + 1) w2 sd2 tf2 rd ta o st dq sl bf hs hF (by omega)) X hL hl vb_X7_readPart q928 (orr.recv hKV rfl) rfl rfl (Nat.le_of_ble_eq_true rfl) dX7_isWhole_19 ⟨Nat.le_of_ble_eq_true rfl, Nat.le_of_ble_eq_true rfl⟩ (by omega) (by omega) ⟨orr, art, oo, hbf⟩ (fun r H locs hL hp => ?_)
          obtain ⟨rfl, ⟨w1, sd1, tf1, ⟨orr, art, oo, hbf⟩, hpk⟩, hC1⟩ := hp
          have hC := hC.trans hC1
          refine lv_istore_n (lv' := [(1, .int _), (0, .ref _)]) hx hb dX7_isWhole_22 rfl hl (by decide) rfl (fun ls hl => ?_)
          refine lv_goto (tgt := 5) hx hb dX7_isWhole_23 (by decide) ?_
          have hil := (pt_inv c_6).1
          have hjl := ptS_lt hi1 c_6
          exact W.widen (by omega) (by omega) (ih5 ((ptS f n i1).2 + 1) (k1 - 1) w1 sd1 tf1 (by omega) (hfa.trans ((fau_next c_6 y59).trans (by rw [show k1 - 1 + 1 = k1 by omega]))) (by omega) (by omega) _ orr art oo hbf hC _ hL ls (lv_sub hl [1, 0] rfl))
  exact W.widen (by omega) (by omega) (L5 (n + 1) i n w1 sd1 tf1 (by omega) rfl hin (by omega) _ orr art oo hbf hC _ hL ls (lv_sub hl [1, 0] rfl))
theorem vb_X7_isWhole : VB yX7_isWhole cX7_isWhole 2 (some .boolean) 0 := ⟨q925, q926, q130, q927, ⟨by decide, by decide, by decide +kernel⟩⟩

set_option maxRecDepth 100000 in
set_option maxHeartbeats 4000000 in
theorem ct_X7_canOn (l : Launch) (g : GT) (PB : Nat → Prop) (f : Nat → Int32) (n i : Nat) (w sd : Int32) (tf : Nat → Int32) (rd ta o st dq sl bf : Nat) (hs : Int64) (ro : Nat → Int32) (nN : Nat) (x : Nat → Nat) (t i1 : Nat) (hF : RdF g PB rd ta o) (hin : i ≤ n) (hpk : PartK f n i1 w sd tf) (hnN : nN ≤ 40) : Ct l g yX7_canOn cX7_canOn 2 (some .boolean) 5 0 0 [.ref rd, .ref t] (fun H => RdX g PB f n i w sd tf rd ta o st dq sl bf hs H ∧ StQ g ro nN x t H) (fun r H H1 => r = some (.int (bI ((folR f n i1 ro nN).1))) ∧ H1 = H) := by
  refine Ct.of (by decide) (Nat.le_of_ble_eq_true rfl) ?_
  intro p e s m args below meth c X hP ls hl
  have hx := X.1
  have hb := X.2.1
  have hKV := X.2.2.2.2.2.2.2.1.1
  have hL : ∀ q ∈ ([] : List Loc), gLo g ≤ q.base := fun _ h => by cases h
  obtain ⟨hrd0, hsq⟩ := hP
  obtain ⟨orr, art, oo, hbf⟩ := hrd0
  obtain ⟨lrd, lta, n1, n2, n3, n4, n5⟩ := id hF
  have hl : lv_has ls 2 [(0, .ref rd), (1, .ref t)] := hl
  have hcr := hbf.chr
  refine lv_aload_n hx hb dX7_canOn_0 rfl (lv_at hl 0 rfl) ?_
  refine r_get (C := RX7) (T := TX7) (N := 5) (ci := 6) X in_X7 rfl 1 (Nat.le_of_ble_eq_true rfl) q909 (fun _ h => h) orr rfl dX7_canOn_1 ?_
  rcases hpk with ⟨hk1, hkw, hk2, hk3, hk4, hk5⟩ | ⟨hk1, hkw, hk2⟩ | ⟨hk1, hkw, hk2, hk3⟩ | ⟨hk1, hkw, hk2, hk3, hk4⟩
  ·
    refine lv_lookup (off := 28) (tgt := 32) hx hb dX7_canOn_4 (by decide) (by rw [hkw]; decide) (by decide) ?_
    refine lv_aload_n hx hb dX7_canOn_32 rfl (lv_at hl 1 rfl) ?_
    refine Cp.callV (v := .int (bI (decide (nN < 40)))) (ct_X2_hasRoom l g ro nN x t hnN) X hL hl vb_X2_hasRoom q1494 (hsq.recv hKV) rfl rfl (Nat.le_of_ble_eq_true rfl) dX7_canOn_33 ⟨Nat.le_of_ble_eq_true rfl, Nat.le_of_ble_eq_true rfl⟩ (by omega) (by omega) hsq (fun locs hL => ?_)
    exact r_iret X hL rfl (narrow_bI _) dX7_canOn_36 (by omega) (by omega) ⟨v_b (fol_a1 hk1).symm, rfl⟩
  ·
    refine lv_lookup (off := 33) (tgt := 37) hx hb dX7_canOn_4 (by decide) (by rw [hkw]; decide) (by decide) ?_
    refine lv_aload_n hx hb dX7_canOn_37 rfl (lv_at hl 1 rfl) ?_
    refine lv_aload_n hx hb dX7_canOn_38 rfl (lv_at hl 0 rfl) ?_
    refine r_get (C := RX7) (T := TX7) (N := 5) (ci := 6) X in_X7 rfl 3 (Nat.le_of_ble_eq_true rfl) q911 (fun _ h => h) orr rfl dX7_canOn_39 ?_
    refine lv_iconst (v := nI 0) hx hb dX7_canOn_42 (by decide) ?_
    refine r_ild X art 0 (nI_cl (by omega) rfl) (nI_nn (by omega) rfl) (by omega) dX7_canOn_43 ?_
    refine Cp.callV (v := .int (bI (!noB nN (tf 0)))) (ct_X2_isOffer l g ro nN x t (tf 0) hnN) X hL hl vb_X2_isOffer q1495 (hsq.recv hKV) rfl rfl (Nat.le_of_ble_eq_true rfl) dX7_canOn_44 ⟨Nat.le_of_ble_eq_true rfl, Nat.le_of_ble_eq_true rfl⟩ (by omega) (by omega) hsq (fun locs hL => ?_)
    exact r_iret X hL rfl (narrow_bI _) dX7_canOn_47 (by omega) (by omega) ⟨v_b (by rw [fol_r1 hk1, hk2]), rfl⟩
  ·
    refine lv_lookup (off := 44) (tgt := 48) hx hb dX7_canOn_4 (by decide) (by rw [hkw]; decide) (by decide) ?_
    refine lv_iconst (v := nI 1) hx hb dX7_canOn_48 (by decide) ?_
    exact r_iret X hL rfl rfl dX7_canOn_49 (by omega) (by omega) ⟨v_t (by rw [fol_w hk1]), rfl⟩
  ·
    refine lv_lookup (off := 44) (tgt := 48) hx hb dX7_canOn_4 (by decide) (by rw [hkw]; decide) (by decide) ?_
    refine lv_iconst (v := nI 1) hx hb dX7_canOn_48 (by decide) ?_
    exact r_iret X hL rfl rfl dX7_canOn_49 (by omega) (by omega) ⟨v_t (by rw [fol_b hk1]), rfl⟩
theorem vb_X7_canOn : VB yX7_canOn cX7_canOn 2 (some .boolean) 1 := ⟨q1492, qs45, q130, q1493, ⟨by decide, by decide, by decide +kernel⟩⟩

set_option maxRecDepth 100000 in
set_option maxHeartbeats 4000000 in
theorem ct_X7_partOn (l : Launch) (g : GT) (PB : Nat → Prop) (f : Nat → Int32) (n i : Nat) (w sd : Int32) (tf : Nat → Int32) (rd ta o st dq sl bf : Nat) (hs : Int64) (I0 : Nat → Prop) (z : Nat) (ro : Nat → Int32) (nN t : Nat) (i1 : Nat) (hF : RdF g PB rd ta o) (hin : i ≤ n) (hz : gLo g ≤ z) (hoz : o < z) (hPz : ∀ q, PB q → q < z) (hI0 : ∀ q, I0 q → q < z) (hpk : PartK f n i1 w sd tf) (hpt : (ptS f n i1).1 = true) (hcan : (folR f n i1 ro nN).1 = true) : Ct l g yX7_partOn cX7_partOn 2 (some .int) 15 9 141 [.ref rd, .ref t] (fun H => RdX g PB f n i w sd tf rd ta o st dq sl bf hs H ∧ ThW g (fun q => q = rd ∨ q = ta) I0 z ro nN t H) (fun r H H1 => ∃ v : Int32, r = some (.int v) ∧ RdX g PB f n i w sd tf rd ta o st dq sl bf hs H1 ∧ ThW g (fun q => q = rd ∨ q = ta) I0 z (folR f n i1 ro nN).2.1 (folR f n i1 ro nN).2.2 t H1 ∧ Chg (fun q => z ≤ q) H H1) := by
  refine Ct.of (by decide) (Nat.le_of_ble_eq_true rfl) ?_
  intro p e s m args below meth c X hP ls hl
  have hx := X.1
  have hb := X.2.1
  have hKV := X.2.2.2.2.2.2.2.1.1
  have hL : ∀ q ∈ ([] : List Loc), gLo g ≤ q.base := fun _ h => by cases h
  obtain ⟨hrd0, hTW⟩ := hP
  have hnN := hTW.n
  obtain ⟨P, I, x, hst, hPq, hIq⟩ := hTW
  obtain ⟨orr, art, oo, hbf⟩ := hrd0
  obtain ⟨lrd, lta, n1, n2, n3, n4, n5⟩ := id hF
  have hl : lv_has ls 2 [(0, .ref rd), (1, .ref t)] := hl
  have hC : Chg (fun q => z ≤ q) s.heap s.heap := Chg.rfl'
  have hgE := hKV.gE
  have hrl := orr.lt
  have htl := art.lt
  have hol := oo.lt
  have hofx := fun j hj => (hst.facts.2.2.1 j hj).mem.2.1
  have hzs : z ≤ s.heap.size := by have := hst.lt; have := (hPq _ hst.facts.1).1; omega
  refine lv_aload_n hx hb dX7_partOn_0 rfl (lv_at hl 0 rfl) ?_
  refine r_get (C := RX7) (T := TX7) (N := 5) (ci := 6) X in_X7 rfl 1 (Nat.le_of_ble_eq_true rfl) q909 (fun _ h => h) orr rfl dX7_partOn_1 ?_
  rcases hpk with ⟨hk1, hkw, hk2, hk3, hk4, hk5⟩ | ⟨hk1, hkw, hk2⟩ | ⟨hk1, hkw, hk2, hk3⟩ | ⟨hk1, hkw, hk2, hk3, hk4⟩
  ·
    refine lv_lookup (off := 36) (tgt := 40) hx hb dX7_partOn_4 (by decide) (by rw [hkw]; decide) (by decide) ?_
    refine lv_aload_n hx hb dX7_partOn_40 rfl (lv_at hl 1 rfl) ?_
    obtain ⟨b1, hb1⟩ : ∃ b, s.heap.size = b := ⟨_, rfl⟩
    have sz_b1 : s.heap.size ≤ b1 := by rw [← hb1]; exact Nat.le_refl _
    have lo_b1 : gLo g ≤ b1 := Nat.le_trans X.2.2.2.2.2.2.2.1.2.1 sz_b1
    have ne_rd_b1 : rd ≠ b1 := Nat.ne_of_lt (by rw [← hb1]; exact orr.lt)
    have ne_ta_b1 : ta ≠ b1 := Nat.ne_of_lt (by rw [← hb1]; exact art.lt)
    have ne_o_b1 : o ≠ b1 := Nat.ne_of_lt (by rw [← hb1]; exact oo.lt)
    refine r_new (C := RX6) (T := TX6) (N := 1) (ci := 5) X in_X6 tyX6 tyX6_ok q1501 q1349 q123 rfl (fs := [.null]) (fun j hj => by rcases j with _ | _ | _ | _ | _ | j <;> first | rfl | omega) (by show _ + 1 ≤ 9; omega) (by show _ + 1 ≤ 141; omega) dX7_partOn_41 (fun H ha_b1 hE_b1 hz_b1 => ?_)
    rw [hb1] at ha_b1 hz_b1 ⊢
    have orr := orr.ext hE_b1
    have art := art.ext hE_b1
    have oo := oo.ext hE_b1
    have hC := hC.trans hE_b1.chg
    have hst := hst.ext hE_b1
    have hbf := hbf.ext hE_b1
    have hzb1 := hz_b1
    refine lv_dup hx hb dX7_partOn_44 rfl ?_
    refine lv_aload_n hx hb dX7_partOn_45 rfl (lv_at hl 0 rfl) ?_
    refine r_get (C := RX7) (T := TX7) (N := 5) (ci := 6) X in_X7 rfl 3 (Nat.le_of_ble_eq_true rfl) q911 (fun _ h => h) orr rfl dX7_partOn_46 ?_
    obtain ⟨b2, hb2⟩ : ∃ b, H.size = b := ⟨_, rfl⟩
    have sz_b2 : s.heap.size ≤ b2 := by rw [← hb2]; exact hC.1
    have lo_b2 : gLo g ≤ b2 := Nat.le_trans X.2.2.2.2.2.2.2.1.2.1 sz_b2
    have ne_rd_b2 : rd ≠ b2 := Nat.ne_of_lt (by rw [← hb2]; exact orr.lt)
    have ne_ta_b2 : ta ≠ b2 := Nat.ne_of_lt (by rw [← hb2]; exact art.lt)
    have ne_o_b2 : o ≠ b2 := Nat.ne_of_lt (by rw [← hb2]; exact oo.lt)
    have ne_b1_b2 : b1 ≠ b2 := Nat.ne_of_lt (by rw [← hb2]; exact ha_b1.lt)
    refine r_clone X hl art q1502 (Nat.le_of_ble_eq_true rfl) (Nat.le_of_ble_eq_true rfl) (by show _ + 1 ≤ 9; omega) (by show _ + 4 ≤ 141; omega) dX7_partOn_49 (fun H ha_b2 hE_b2 hz_b2 => ?_)
    rw [hb2] at ha_b2 hz_b2 ⊢
    have orr := orr.ext hE_b2
    have art := art.ext hE_b2
    have oo := oo.ext hE_b2
    have ha_b1 := ha_b1.ext hE_b2
    have hC := hC.trans hE_b2.chg
    have hst := hst.ext hE_b2
    have hbf := hbf.ext hE_b2
    have hzb2 := hz_b2
    have hb1l := ha_b1.lt
    refine r_castI X ha_b2 q1503 dX7_partOn_52 ?_
    refine Ct.callI (ct_X6_init l g (fun _ => True) b1 b2 lo_b1) X hL hl ib_X6_init q1504 rfl rfl (Nat.le_of_ble_eq_true rfl) dX7_partOn_55 ⟨Nat.le_of_ble_eq_true rfl, Nat.le_of_ble_eq_true rfl⟩ (by omega) (by omega) ha_b1 (fun r H locs hL hp => ?_)
    obtain ⟨rfl, ha_b1, hon⟩ := hp
    have hst := hst.keep (Q := fun q => q = b1) (hon.chg rfl) (fun q hq y => by have := (hPq q hq).2.2; omega) (fun q hq y => by have := (hIq q hq).2.2; omega) (by omega)
    have orr := orr.on hon ne_rd_b1
    have art := art.on hon ne_ta_b1
    have oo := oo.on hon ne_o_b1
    have hbf := hbf.keep (Q := fun q => q = b1) (hon.chg rfl) (fun q hq y => by have := hPz q hq; omega)
    have ha_b2 := ha_b2.on hon (Ne.symm ne_b1_b2)
    have hzh := hon.1
    have hC := hC.trans (hon.chg (P := fun q => z ≤ q) (by omega))
    have hN40 : nN < 40 := by have := hcan; rw [fol_a1 hk1] at this; exact of_decide_eq_true this
    have hPa : ∀ q, (fun q => P q ∨ b2 < q) q → z ≤ q ∧ ¬ (fun q => q = rd ∨ q = ta) q := fun q hq => hq.elim (fun y => ⟨(hPq q y).1, (hPq q y).2.1⟩) (fun y => ⟨by omega, fun u => u.elim (fun u => by omega) (fun u => by omega)⟩)
    have hIa : ∀ q, (fun q => I q ∨ q = b1 ∨ q = b2) q → (I0 q ∨ (z ≤ q ∧ ¬ (fun q => q = rd ∨ q = ta) q)) ∧ ¬ (fun q => P q ∨ b2 < q) q := fun q hq => hq.elim (fun y => ⟨(hIq q y).1, fun u => u.elim (hIq q y).2.1 (fun u => by have := (hIq q y).2.2; omega)⟩) (fun y => ⟨Or.inr ⟨by omega, fun u => u.elim (fun u => by omega) (fun u => by omega)⟩, fun u => u.elim (fun u => by have := (hPq q u).2.2; omega) (fun u => by omega)⟩)
    refine Ct.callV (ct_X2_adds l g (fun q => P q ∨ b2 < q) (fun q => I q ∨ q = b1 ∨ q = b2) ro nN x t tf b1 (fun q hq => (hIa q hq).2) (fun y => by have := (hPa _ y).1; omega) hN40 (fun j hj y => by have := hofx j hj; omega)) X hL hl vb_X2_adds q1505 (hst.recv hKV) rfl rfl (Nat.le_of_ble_eq_true rfl) dX7_partOn_58 ⟨Nat.le_of_ble_eq_true rfl, Nat.le_of_ble_eq_true rfl⟩ (by omega) (by omega) ⟨hst.mono (fun q hq _ => Or.inl hq) (fun q hq _ => Or.inl hq), ⟨b2, Or.inr (Or.inl rfl), Or.inr (Or.inr rfl), lo_b1, lo_b2, ha_b1, ha_b2⟩, fun q hq => Or.inr (by omega)⟩ (fun r H locs hL hp => ?_)
    obtain ⟨rfl, hst, hC1⟩ := hp
    have orr := orr.chg hC1 (fun y => (hPa _ y).2 (Or.inl rfl))
    have art := art.chg hC1 (fun y => (hPa _ y).2 (Or.inr rfl))
    have oo := oo.chg hC1 (fun y => by have := (hPa _ y).1; omega)
    have hbf := hbf.keep hC1 (fun q hq y => by have := (hPa _ y).1; have := hPz q hq; omega)
    have hC := hC.trans (hC1.mono (fun q hq => (hPa q hq).1))
    exact r_iret X hL rfl rfl dX7_partOn_61 (by omega) (by omega) ⟨_, rfl, ⟨orr, art, oo, hbf⟩, by rw [fol_a hk1, if_pos hN40, ← hk2, ← hk3, ← hk4, ← hk5]; exact ThW.mk hst (fun q hq _ => hPa q hq) (fun q hq _ => hIa q hq), hC⟩
  ·
    refine lv_lookup (off := 58) (tgt := 62) hx hb dX7_partOn_4 (by decide) (by rw [hkw]; decide) (by decide) ?_
    refine lv_aload_n hx hb dX7_partOn_62 rfl (lv_at hl 1 rfl) ?_
    refine lv_aload_n hx hb dX7_partOn_63 rfl (lv_at hl 0 rfl) ?_
    refine r_get (C := RX7) (T := TX7) (N := 5) (ci := 6) X in_X7 rfl 3 (Nat.le_of_ble_eq_true rfl) q911 (fun _ h => h) orr rfl dX7_partOn_64 ?_
    refine lv_iconst (v := nI 0) hx hb dX7_partOn_67 (by decide) ?_
    have hnb : noB nN (nbI f n (i1 + 1) 39) = false := by have := hcan; rw [fol_r1 hk1] at this; simpa using this
    obtain ⟨hvc, hvl⟩ := noB_nat hnN hnb
    refine r_ild X art 0 (nI_cl (by omega) rfl) (nI_nn (by omega) rfl) (by omega) dX7_partOn_68 ?_
    refine W.stk (w := (nI ((nbI f n (i1 + 1) 39).toNatClampNeg))) (hk2.trans hvc) ?_
    refine Ct.callV (ct_X2_removes l g P I ro nN x t ((nbI f n (i1 + 1) 39).toNatClampNeg) (fun q hq => (hIq q hq).2.1) (fun y => by have := (hPq _ y).1; omega) hvl) X hL hl vb_X2_removes q1506 (hst.recv hKV) rfl rfl (Nat.le_of_ble_eq_true rfl) dX7_partOn_69 ⟨Nat.le_of_ble_eq_true rfl, Nat.le_of_ble_eq_true rfl⟩ (by omega) (by omega) hst (fun r H locs hL hp => ?_)
    obtain ⟨rfl, hst, hC1⟩ := hp
    have orr := orr.chg hC1 (fun y => (hPq _ y).2.1 (Or.inl rfl))
    have art := art.chg hC1 (fun y => (hPq _ y).2.1 (Or.inr rfl))
    have oo := oo.chg hC1 (fun y => by have := (hPq _ y).1; omega)
    have hbf := hbf.keep hC1 (fun q hq y => by have := (hPq _ y).1; have := hPz q hq; omega)
    have hzc := hC1.1
    have hC := hC.trans (hC1.mono (fun q hq => (hPq q hq).1))
    exact r_iret X hL rfl rfl dX7_partOn_72 (by omega) (by omega) ⟨_, rfl, ⟨orr, art, oo, hbf⟩, by rw [fol_r hk1, hnb, if_neg (by decide)]; exact ThW.mk hst (fun q hq _ => ⟨(hPq q hq).1, (hPq q hq).2.1⟩) (fun q hq _ => ⟨(hIq q hq).1, (hIq q hq).2.1⟩), hC⟩
  ·
    refine lv_lookup (off := 69) (tgt := 73) hx hb dX7_partOn_4 (by decide) (by rw [hkw]; decide) (by decide) ?_
    refine lv_aload_n hx hb dX7_partOn_73 rfl (lv_at hl 1 rfl) ?_
    refine lv_aload_n hx hb dX7_partOn_74 rfl (lv_at hl 0 rfl) ?_
    obtain ⟨hsd1, hsd2⟩ := sd_ok (pt_wb hpt (by rw [hk1]; decide) (by rw [hk1]; decide)).1
    refine r_get (C := RX7) (T := TX7) (N := 5) (ci := 6) X in_X7 rfl 2 (Nat.le_of_ble_eq_true rfl) q910 (fun _ h => h) orr rfl dX7_partOn_75 ?_
    refine W.stk (w := (nI (sdN f i1))) (hk2.trans hsd1) ?_
    refine lv_aload_n hx hb dX7_partOn_78 rfl (lv_at hl 0 rfl) ?_
    refine r_get (C := RX7) (T := TX7) (N := 5) (ci := 6) X in_X7 rfl 3 (Nat.le_of_ble_eq_true rfl) q911 (fun _ h => h) orr rfl dX7_partOn_79 ?_
    refine lv_iconst (v := nI 0) hx hb dX7_partOn_82 (by decide) ?_
    refine r_ild X art 0 (nI_cl (by omega) rfl) (nI_nn (by omega) rfl) (by omega) dX7_partOn_83 ?_
    refine Ct.callV (ct_X2_wishes l g P I ro nN x t (sdN f i1) (tf 0) (fun q hq => (hIq q hq).2.1) (fun y => by have := (hPq _ y).1; omega) hsd2) X hL hl vb_X2_wishes q1507 (hst.recv hKV) rfl rfl (Nat.le_of_ble_eq_true rfl) dX7_partOn_84 ⟨Nat.le_of_ble_eq_true rfl, Nat.le_of_ble_eq_true rfl⟩ (by omega) (by omega) hst (fun r H locs hL hp => ?_)
    obtain ⟨rfl, hst, hC1⟩ := hp
    have orr := orr.chg hC1 (fun y => (hPq _ y).2.1 (Or.inl rfl))
    have art := art.chg hC1 (fun y => (hPq _ y).2.1 (Or.inr rfl))
    have oo := oo.chg hC1 (fun y => by have := (hPq _ y).1; omega)
    have hbf := hbf.keep hC1 (fun q hq y => by have := (hPq _ y).1; have := hPz q hq; omega)
    have hC := hC.trans (hC1.mono (fun q hq => (hPq q hq).1))
    exact r_iret X hL rfl rfl dX7_partOn_87 (by omega) (by omega) ⟨_, rfl, ⟨orr, art, oo, hbf⟩, by rw [fol_w hk1, ← hk3]; exact ThW.mk hst (fun q hq _ => ⟨(hPq q hq).1, (hPq q hq).2.1⟩) (fun q hq _ => ⟨(hIq q hq).1, (hIq q hq).2.1⟩), hC⟩
  ·
    refine lv_lookup (off := 84) (tgt := 88) hx hb dX7_partOn_4 (by decide) (by rw [hkw]; decide) (by decide) ?_
    refine lv_aload_n hx hb dX7_partOn_88 rfl (lv_at hl 1 rfl) ?_
    refine lv_aload_n hx hb dX7_partOn_89 rfl (lv_at hl 0 rfl) ?_
    obtain ⟨hsd1, hsd2⟩ := sd_ok (pt_wb hpt (by rw [hk1]; decide) (by rw [hk1]; decide)).1
    refine r_get (C := RX7) (T := TX7) (N := 5) (ci := 6) X in_X7 rfl 2 (Nat.le_of_ble_eq_true rfl) q910 (fun _ h => h) orr rfl dX7_partOn_90 ?_
    refine W.stk (w := (nI (sdN f i1))) (hk2.trans hsd1) ?_
    refine lv_aload_n hx hb dX7_partOn_93 rfl (lv_at hl 0 rfl) ?_
    refine r_get (C := RX7) (T := TX7) (N := 5) (ci := 6) X in_X7 rfl 3 (Nat.le_of_ble_eq_true rfl) q911 (fun _ h => h) orr rfl dX7_partOn_94 ?_
    refine lv_iconst (v := nI 0) hx hb dX7_partOn_97 (by decide) ?_
    refine r_ild X art 0 (nI_cl (by omega) rfl) (nI_nn (by omega) rfl) (by omega) dX7_partOn_98 ?_
    refine lv_aload_n hx hb dX7_partOn_99 rfl (lv_at hl 0 rfl) ?_
    refine r_get (C := RX7) (T := TX7) (N := 5) (ci := 6) X in_X7 rfl 3 (Nat.le_of_ble_eq_true rfl) q911 (fun _ h => h) orr rfl dX7_partOn_100 ?_
    refine lv_iconst (v := nI 1) hx hb dX7_partOn_103 (by decide) ?_
    refine r_ild X art 1 (nI_cl (by omega) rfl) (nI_nn (by omega) rfl) (by omega) dX7_partOn_104 ?_
    refine Ct.callV (ct_X2_bounds l g P I ro nN x t (sdN f i1) (tf 0) (tf 1) (fun q hq => (hIq q hq).2.1) (fun y => by have := (hPq _ y).1; omega) hsd2) X hL hl vb_X2_bounds q1508 (hst.recv hKV) rfl rfl (Nat.le_of_ble_eq_true rfl) dX7_partOn_105 ⟨Nat.le_of_ble_eq_true rfl, Nat.le_of_ble_eq_true rfl⟩ (by omega) (by omega) hst (fun r H locs hL hp => ?_)
    obtain ⟨rfl, hst, hC1⟩ := hp
    have orr := orr.chg hC1 (fun y => (hPq _ y).2.1 (Or.inl rfl))
    have art := art.chg hC1 (fun y => (hPq _ y).2.1 (Or.inr rfl))
    have oo := oo.chg hC1 (fun y => by have := (hPq _ y).1; omega)
    have hbf := hbf.keep hC1 (fun q hq y => by have := (hPq _ y).1; have := hPz q hq; omega)
    have hC := hC.trans (hC1.mono (fun q hq => (hPq q hq).1))
    exact r_iret X hL rfl rfl dX7_partOn_108 (by omega) (by omega) ⟨_, rfl, ⟨orr, art, oo, hbf⟩, by rw [fol_b hk1, ← hk3, ← hk4]; exact ThW.mk hst (fun q hq _ => ⟨(hPq q hq).1, (hPq q hq).2.1⟩) (fun q hq _ => ⟨(hIq q hq).1, (hIq q hq).2.1⟩), hC⟩
theorem vb_X7_partOn : VB yX7_partOn cX7_partOn 2 (some .int) 1 := ⟨q1499, qs46, q130, q1500, ⟨by decide, by decide, by decide +kernel⟩⟩

set_option maxRecDepth 100000 in
set_option maxHeartbeats 4000000 in
theorem ct_X7_allOn (l : Launch) (g : GT) (PB : Nat → Prop) (f : Nat → Int32) (n i : Nat) (w sd : Int32) (tf : Nat → Int32) (rd ta o st dq sl bf : Nat) (hs : Int64) (I0 : Nat → Prop) (z : Nat) (ro : Nat → Int32) (nN t : Nat) (hF : RdF g PB rd ta o) (hin : i ≤ n) (hz : gLo g ≤ z) (hoz : o < z) (hPz : ∀ q, PB q → q < z) (hI0 : ∀ q, I0 q → q < z) (hl0 : l.stackTraces = false) (hzr : z ≤ rd) (hzt : z ≤ ta) (hfa : (fauG f n (n + 1) i).1 = (-1)) : Ce l g yX7_allOn cX7_allOn 4 none 17 610 8967 [.ref rd, .ref t] (fun H => RdX g PB f n i w sd tf rd ta o st dq sl bf hs H ∧ ThW g (fun q => q = rd ∨ q = ta) I0 z ro nN t H) (fun r H H1 => r = none ∧ (folG f n (n + 1) i ro nN).1 = true ∧ ThW g (fun q => q = rd ∨ q = ta) I0 z (folG f n (n + 1) i ro nN).2.1 (folG f n (n + 1) i ro nN).2.2 t H1 ∧ Chg (fun q => z ≤ q) H H1) (fun E H H1 => E = "java/lang/IllegalStateException" ∧ (folG f n (n + 1) i ro nN).1 = false ∧ Chg (fun q => z ≤ q) H H1) := by
  refine Ce.of (by decide) (Nat.le_of_ble_eq_true rfl) ?_
  intro p e s m args below meth c X ht hP ls hl
  have hx := X.1
  have hb := X.2.1
  have hKV := X.2.2.2.2.2.2.2.1.1
  have hL : ∀ q ∈ ([] : List Loc), gLo g ≤ q.base := fun _ h => by cases h
  obtain ⟨hrd0, hTW⟩ := hP
  obtain ⟨orr, art, oo, hbf⟩ := hrd0
  obtain ⟨lrd, lta, n1, n2, n3, n4, n5⟩ := id hF
  have hl : lv_has ls 4 [(0, .ref rd), (1, .ref t)] := hl
  have hC : Chg (fun q => z ≤ q) s.heap s.heap := Chg.rfl'
  have hgE := hKV.gE
  have hcr := hbf.chr
  have hp0 := (fau_inv hcr.1 hin hfa).1
  refine lv_aload_n hx hb dX7_allOn_0 rfl (lv_at hl 0 rfl) ?_
  refine Ct.callV (ct_X7_readPart l g PB f n i w sd tf rd ta o st dq sl bf hs hF hin) X hL hl vb_X7_readPart q928 (orr.recv hKV rfl) rfl rfl (Nat.le_of_ble_eq_true rfl) dX7_allOn_1 ⟨Nat.le_of_ble_eq_true rfl, Nat.le_of_ble_eq_true rfl⟩ (by omega) (by omega) ⟨orr, art, oo, hbf⟩ (fun r H locs hL hp => ?_)
  obtain ⟨rfl, ⟨w3, sd3, tf3, ⟨orr, art, oo, hbf⟩, hpk⟩, hC1⟩ := hp
  have hC := hC.trans (hC1.mono (fun q hq => hq.elim (fun y => by omega) (fun y => by omega)))
  have hTW := hTW.keep hC1 (fun y => y.elim (fun y => by omega) (fun y => by omega)) (fun q hq y => by have := hI0 q hq; exact y.elim (fun y => by omega) (fun y => by omega))
  refine lv_istore_n (lv' := [(2, .int _), (0, .ref _), (1, .ref _)]) hx hb dX7_allOn_4 rfl hl (by decide) rfl (fun ls hl => ?_)
  have L5 : ∀ (fuel : Nat) (b : Bool) (i1 j1 k1 : Nat) (r1 : Nat → Int32) (n1 : Nat) (w2 sd2 : Int32) (tf2 : Nat → Int32), (if b then k1 + 1 else 0) < fuel → (b = true → (ptS f n i1).1 = true ∧ j1 = (ptS f n i1).2 ∧ PartK f n i1 w2 sd2 tf2 ∧ (fauG f n (k1 + 1) i1).1 = (-1) ∧ folG f n (n + 1) i ro nN = folG f n (k1 + 1) i1 r1 n1 ∧ i1 < n ∧ n ≤ i1 + k1) → (b = false → (folG f n (n + 1) i ro nN) = (true, r1, n1)) → (i1 ≤ n) → (j1 ≤ n) → ∀ (H : Heap), Ob g rd 6 [.int (nI j1), .int w2, .int sd2, .ref ta, .ref o] H → Ar g ta 0 4 tf2 H → Ob g o 1 [.ref st, .ref dq, .ref sl, .ref bf, .long hs] H → BufR g PB f n bf H → ThW g (fun q => q = rd ∨ q = ta) I0 z r1 n1 t H → Chg (fun q => z ≤ q) s.heap H → ∀ (locs : List Loc), (∀ q ∈ locs, gLo g ≤ q.base) → ∀ (ls : Array Slot), lv_has ls 4 [(0, .ref rd), (1, .ref t), (2, .int (bI b))] → W p l e (rmL 17 610 8967) s m args below meth c H locs (10 * i1) (147 * i1) (vx_MQ below (Qcg (fun r H H1 => r = none ∧ (folG f n (n + 1) i ro nN).1 = true ∧ ThW g (fun q => q = rd ∨ q = ta) I0 z (folG f n (n + 1) i ro nN).2.1 (folG f n (n + 1) i ro nN).2.2 t H1 ∧ Chg (fun q => z ≤ q) H H1)) (XCg (fun E H H1 => E = "java/lang/IllegalStateException" ∧ (folG f n (n + 1) i ro nN).1 = false ∧ Chg (fun q => z ≤ q) H H1)) args s 610 8967 (fre g)) (F0 m 5 ls []) := by
    intro fuel
    induction fuel with
    | zero => intro b i1 j1 k1 r1 n1 w2 sd2 tf2 hfu; exact absurd hfu (Nat.not_lt_zero _)
    | succ fuel ih5 =>
      intro b i1 j1 k1 r1 n1 w2 sd2 tf2 hfu hbt hb0 hi1 hj1 H orr art oo hbf hTW hC locs hL ls hl
      have hrl := orr.lt
      have htl := art.lt
      refine lv_iload_n hx hb dX7_allOn_5 rfl (lv_at hl 2 rfl) ?_
      refine b_ifeq (tgt := 48) X dX7_allOn_6 (by decide) (fun c_6 => ?_) (fun c_6 => ?_)
      ·
        exact vx_ret (r_vret X hL dX7_allOn_48 (by omega) (by omega) ⟨rfl, by rw [hb0 c_6], by rw [hb0 c_6]; exact hTW, hC⟩)
      ·
        obtain ⟨hp1, rfl, hpk, hfi, hfo, hil, hnk⟩ := hbt c_6
        have hnN := hTW.n
        obtain ⟨xq, hsq⟩ := hTW.q
        obtain ⟨hp1x, hfn⟩ := fau_inv hcr.1 hi1 hfi
        refine lv_aload_n hx hb dX7_allOn_9 rfl (lv_at hl 0 rfl) ?_
        refine lv_aload_n hx hb dX7_allOn_10 rfl (lv_at hl 1 rfl) ?_
        refine Cp.callV (v := .int (bI ((folR f n i1 r1 n1).1))) (ct_X7_canOn l g PB f n ((ptS f n i1).2) w2 sd2 tf2 rd ta o st dq sl bf hs r1 n1 xq t i1 hF hj1 hpk hnN) X hL hl vb_X7_canOn q1490 (orr.recv hKV rfl) rfl rfl (Nat.le_of_ble_eq_true rfl) dX7_allOn_11 ⟨Nat.le_of_ble_eq_true rfl, Nat.le_of_ble_eq_true rfl⟩ (by omega) (by omega) ⟨⟨orr, art, oo, hbf⟩, hsq⟩ (fun locs hL => ?_)
        refine Ce.callSN (ct_X1_requireState l g hl0 ((folR f n i1 r1 n1).1) ) X ht hL hl sb_X1_requireState q1496 rfl rfl (Nat.le_of_ble_eq_true rfl) dX7_allOn_14 ⟨Nat.le_of_ble_eq_true rfl, Nat.le_of_ble_eq_true rfl⟩ (by omega) (by omega) trivial (fun E H1 hx => ⟨hx.1, by rw [hfo]; exact folG_n hil hx.2.1, hC.trans hx.2.2.chg⟩) (fun r H locs hL hp => ?_)
        obtain ⟨rfl, rfl, hcan⟩ := hp
        refine lv_aload_n hx hb dX7_allOn_17 rfl (lv_at hl 0 rfl) ?_
        refine lv_aload_n hx hb dX7_allOn_18 rfl (lv_at hl 1 rfl) ?_
        refine Ct.callV (ct_X7_partOn l g PB f n ((ptS f n i1).2) w2 sd2 tf2 rd ta o st dq sl bf hs I0 z r1 n1 t i1 hF hj1 hz hoz hPz hI0 hpk hp1 hcan) X hL hl vb_X7_partOn q1497 (orr.recv hKV rfl) rfl rfl (Nat.le_of_ble_eq_true rfl) dX7_allOn_19 ⟨Nat.le_of_ble_eq_true rfl, Nat.le_of_ble_eq_true rfl⟩ (by omega) (by omega) ⟨⟨orr, art, oo, hbf⟩, hTW⟩ (fun r H locs hL hp => ?_)
        obtain ⟨v, rfl, ⟨orr, art, oo, hbf⟩, hTW, hC1⟩ := hp
        have hC := hC.trans hC1
        have hin := hj1
        refine lv_istore_n (lv' := [(3, .int _), (0, .ref _), (1, .ref _), (2, .int _)]) hx hb dX7_allOn_22 rfl hl (by decide) rfl (fun ls hl => ?_)
        refine lv_aload_n hx hb dX7_allOn_23 rfl (lv_at hl 1 rfl) ?_
        refine lv_bipush (v := nI 59) hx hb dX7_allOn_24 (by decide) ?_
        refine Ct.callV (ct_X7_isNext l g PB f n ((ptS f n i1).2) w2 sd2 tf2 rd ta o st dq sl bf hs 59 hF hin (by omega) (by omega)) X hL hl vb_X7_isNext q955 (orr.recv hKV rfl) rfl rfl (Nat.le_of_ble_eq_true rfl) dX7_allOn_26 ⟨Nat.le_of_ble_eq_true rfl, Nat.le_of_ble_eq_true rfl⟩ (by omega) (by omega) ⟨orr, art, oo, hbf⟩ (fun r H locs hL hp => ?_)
        obtain ⟨rfl, ⟨orr, art, oo, hbf⟩, hC1⟩ := hp
        have hC := hC.trans (hC1.mono (fun q hq => hq.elim (fun y => by omega) (fun y => by omega)))
        have hTW := hTW.keep hC1 (fun y => y.elim (fun y => by omega) (fun y => by omega)) (fun q hq y => by have := hI0 q hq; exact y.elim (fun y => by omega) (fun y => by omega))
        have hin := (pS_b (f := f) (a := 59) (b := 59) hin).2
        refine b_ifeq (tgt := 43) X dX7_allOn_29 (by decide) (fun c_29 => ?_) (fun c_29 => ?_)
        ·
          have y59 := c_29
          rw [pS_f y59] at orr hin
          refine lv_iconst (v := nI 0) hx hb dX7_allOn_43 (by decide) ?_
          refine lv_istore_n (lv' := [(2, .int _), (3, .int _), (0, .ref _), (1, .ref _)]) hx hb dX7_allOn_44 rfl hl (by decide) rfl (fun ls hl => ?_)
          refine lv_goto (tgt := 5) hx hb dX7_allOn_45 (by decide) ?_
          have hjn : (ptS f n i1).2 = n := hfn.elim (fun y => y) (fun y => absurd (see_1.mpr ⟨y.1, y.2.1⟩) (by rw [y59]; decide))
          exact W.widen (by omega) (by omega) (ih5 false (i1 + 1) ((ptS f n i1).2) k1 ((folR f n i1 r1 n1).2.1) ((folR f n i1 r1 n1).2.2) w2 sd2 tf2 (by rw [if_neg (by decide)]; rw [c_6, if_pos rfl] at hfu; omega) (fun y => absurd y (by decide)) (fun _ => by rw [hfo, folG_s hil hcan]; exact folG_end (by omega) _ _ _) (by omega) (ptS_b (f := f) hi1).2 _ orr art oo hbf hTW hC _ hL ls (lv_sub hl [2, 3, 0] rfl))
        ·
          have y59 := c_29
          rw [(pS_t y59).1] at orr hin
          refine lv_aload_n hx hb dX7_allOn_32 rfl (lv_at hl 1 rfl) ?_
          refine Ct.callV (ct_X7_readPart l g PB f n ((ptS f n i1).2 + 1) w2 sd2 tf2 rd ta o st dq sl bf hs hF (by have := (pS_t y59).2; omega)) X hL hl vb_X7_readPart q928 (orr.recv hKV rfl) rfl rfl (Nat.le_of_ble_eq_true rfl) dX7_allOn_33 ⟨Nat.le_of_ble_eq_true rfl, Nat.le_of_ble_eq_true rfl⟩ (by omega) (by omega) ⟨orr, art, oo, hbf⟩ (fun r H locs hL hp => ?_)
          obtain ⟨rfl, ⟨w3, sd3, tf3, ⟨orr, art, oo, hbf⟩, hpk⟩, hC1⟩ := hp
          have hC := hC.trans (hC1.mono (fun q hq => hq.elim (fun y => by omega) (fun y => by omega)))
          have hTW := hTW.keep hC1 (fun y => y.elim (fun y => by omega) (fun y => by omega)) (fun q hq y => by have := hI0 q hq; exact y.elim (fun y => by omega) (fun y => by omega))
          obtain ⟨hf3, hp3, hn3⟩ := all_next hcr.1 hfi hil hnk y59
          refine b_ifeq (tgt := 43) X dX7_allOn_36 (by decide) (fun c_36 => ?_) (fun c_36 => ?_)
          ·
            exact absurd (hp3.symm.trans c_36) (by decide)
          ·
            refine lv_iconst (v := nI 1) hx hb dX7_allOn_39 (by decide) ?_
            refine lv_goto (tgt := 44) hx hb dX7_allOn_40 (by decide) ?_
            refine lv_istore_n (lv' := [(2, .int _), (3, .int _), (0, .ref _), (1, .ref _)]) hx hb dX7_allOn_44 rfl hl (by decide) rfl (fun ls hl => ?_)
            refine lv_goto (tgt := 5) hx hb dX7_allOn_45 (by decide) ?_
            have hjl := ptS_lt hi1 hp1
            exact W.widen (by omega) (by omega) (ih5 true ((ptS f n i1).2 + 1) ((ptS f n ((ptS f n i1).2 + 1)).2) (k1 - 1) ((folR f n i1 r1 n1).2.1) ((folR f n i1 r1 n1).2.2) w3 sd3 tf3 (by rw [if_pos rfl]; rw [c_6, if_pos rfl] at hfu; omega) (fun _ => ⟨c_36, rfl, hpk c_36, hf3, by rw [hfo, folG_s hil hcan, show k1 - 1 + 1 = k1 by omega], hn3, by omega⟩) (fun y => absurd y (by decide)) (by omega) (ptS_b (f := f) (by omega)).2 _ orr art oo hbf hTW hC _ hL ls (lv_sub hl [2, 3, 0] rfl))
  exact W.widen (by omega) (by omega) (L5 (n + 2) ((ptS f n i).1) i ((ptS f n i).2) n ro nN w3 sd3 tf3 (by rw [hp0, if_pos rfl]; omega) (fun y => ⟨y, rfl, hpk y, hfa, rfl, (pt_inv y).1, by omega⟩) (fun y => absurd (hp0.symm.trans y) (by decide)) hin (ptS_b (f := f) hin).2 _ orr art oo hbf hTW hC _ hL ls (lv_sub hl [1, 2, 0] rfl))
theorem vb_X7_allOn : VB yX7_allOn cX7_allOn 4 none 1 := ⟨q1487, q1488, q130, q1489, ⟨by decide, by decide, by decide +kernel⟩⟩
