/-! the OfferSky made; orders followed -/
theorem s_fol_1 {S : MS} {N n st : Nat} (h : ¬ (fauG (S.1 4) n (n + 1) 0).1 = (-1)) : s_follow S N n st = x_ S 1 := if_pos h
theorem s_fol_2 {S : MS} {N n st : Nat} (h : (fauG (S.1 4) n (n + 1) 0).1 = (-1)) (h2 : (folG (S.1 4) n (n + 1) 0 (S.1 0) N).1 = false) : s_follow S N n st = x_ S 2 := by
  unfold s_follow; rw [if_neg (fun y => y h), h2, if_neg (by decide)]
theorem s_fol_0 {S : MS} {N n st : Nat} (h : (fauG (S.1 4) n (n + 1) 0).1 = (-1)) (h2 : (folG (S.1 4) n (n + 1) 0 (S.1 0) N).1 = true) : s_follow S N n st = (0, vI (nI (folG (S.1 4) n (n + 1) 0 (S.1 0) N).2.2), uS (upR S st (folG (S.1 4) n (n + 1) 0 (S.1 0) N).2.1) 13 (nI 0)) := by
  unfold s_follow; rw [if_neg (fun y => y h), if_pos h2]
theorem k_three (P I : Nat → Prop) (K1 : Nat → Nat) (c : Nat) (h : ∀ q, I q → ¬ P q) : ∃ K2 : Nat → Nat, (∀ q, P q → K2 q = c) ∧ (∀ q, I q → K2 q = 4) ∧ ∀ q, ¬ P q → ¬ I q → K2 q = K1 q := by
  classical
  exact ⟨fun q => if P q then c else if I q then 4 else K1 q, fun q hq => if_pos hq, fun q hq => by show (if P q then c else if I q then 4 else K1 q) = 4; rw [if_neg (h q hq), if_pos hq], fun q h1 h2 => by show (if P q then c else if I q then 4 else K1 q) = K1 q; rw [if_neg h1, if_neg h2]⟩
/-- the model's first state -/
def S00 : MS := (fun k => if k = 0 then row0 else fun _ => 0, fun _ => 0, 0)
theorem RO_row0 : RO row0 0 := by
  refine RO.mk' (fun i hi => absurd hi (Nat.not_lt_zero _)) (fun q hq => ?_) (fun q hq => ?_) (fun q hq => ?_) (fun q hq => ?_)
  · unfold mw row0; rw [if_neg (by omega), if_neg (by omega)]; decide
  · unfold mle row0; rw [if_neg (by omega), if_neg (by omega)]; decide
  · unfold mgr row0; rw [if_pos (by omega)]; decide
  · unfold mwe row0; rw [if_neg (by omega), if_pos (by omega)]; decide

set_option maxRecDepth 100000 in
set_option maxHeartbeats 4000000 in
theorem ct_X1_follow (l : Launch) (g : GT) (F : Nat → Prop) (S : MS) (n st ln : Nat) (hf hs : Bool) (o : Nat) (hl0 : l.stackTraces = false) : Ce l g yX1_follow cX1_follow 2 (some .int) 20 690 9600 [.ref o] (SkR g F S n st ln hf hs o) (OpP g F o (s_follow S n ln st)) (OpX g F o "java/lang/IllegalArgumentException" "java/lang/IllegalStateException" (s_follow S n ln st)) := by
  refine Ce.of (by decide) (Nat.le_of_ble_eq_true rfl) ?_
  intro p e s m args below meth c X ht hP ls hl
  have hx := X.1
  have hb := X.2.1
  have hKV := X.2.2.2.2.2.2.2.1.1
  have hL : ∀ q ∈ ([] : List Loc), gLo g ≤ q.base := fun _ h => by cases h
  have hsk := hP
  have hgE := hKV.gE
  have hl : lv_has ls 2 [(0, .ref o)] := hl
  have hC : Chg (fun q => ¬ F q) s.heap s.heap := Chg.rfl'
  obtain ⟨K, sta, dq, sl, bf, xs, fs, hh, hK0, hFs, hB, hS, hJ⟩ := id hsk
  obtain ⟨⟨ob, k1, k2, nos, loo, los⟩, hdq, hbf, hsl, hxq, hxi, hsv⟩ := id hB
  have hKE : K (gE g) = 0 := hK0 _ (Or.inl hgE)
  have hnF : ∀ q, K q ≠ 0 → ¬ F q := fun q hq y => hq (hK0 q (Or.inr y))
  have hE : Ext s.heap s.heap := Ext.rfl'
  have hol := ob.lt
  obtain ⟨z, hz⟩ : ∃ z, s.heap.size = z := ⟨_, rfl⟩
  have hbl := hbf.chr
  have hbf := hbf.to (Q := (fun q => K q = 3 ∧ q < z)) (fun q u v => ⟨u, by omega⟩)
  obtain ⟨hRO, x, hst⟩ := id hS
  have hn := hst.facts.2.2.2.2.2
  have h160 := hst.facts.2.2.2.2.1
  have hst0 := hst.mono (P1 := fun q => K q = 5 + sta) (I1 := (fun q => K q = 4 ∧ q < z)) (fun q u _ => u) (fun q u v => ⟨u, by omega⟩)
  obtain ⟨b1, hb1⟩ : ∃ b, s.heap.size = b := ⟨_, rfl⟩
  have sz_b1 : s.heap.size ≤ b1 := by rw [← hb1]; exact Nat.le_refl _
  have lo_b1 : gLo g ≤ b1 := Nat.le_trans X.2.2.2.2.2.2.2.1.2.1 sz_b1
  have ne_o_b1 : o ≠ b1 := Nat.ne_of_lt (by rw [← hb1]; exact ob.lt)
  refine r_new (C := RX7) (T := TX7) (N := 5) (ci := 6) X in_X7 tyX7 tyX7_ok q901 q902 q130 rfl (fs := [.int 0, .int 0, .int 0, .null, .null]) (fun j hj => by rcases j with _ | _ | _ | _ | _ | j <;> first | rfl | omega) (by show _ + 1 ≤ 690; omega) (by show _ + 5 ≤ 9600; omega) dX1_follow_0 (fun H ha_b1 hE_b1 hz_b1 => ?_)
  rw [hb1] at ha_b1 hz_b1 ⊢
  have ob := ob.ext hE_b1
  have hE := hE.trans hE_b1
  have hbf := hbf.ext hE_b1
  refine lv_dup hx hb dX1_follow_3 rfl ?_
  refine lv_aload_n hx hb dX1_follow_4 rfl (lv_at hl 0 rfl) ?_
  refine Ct.callIN (ct_X7_init l g b1 o lo_b1) X hL hl ib_X7_init q903 rfl rfl (Nat.le_of_ble_eq_true rfl) dX1_follow_5 ⟨Nat.le_of_ble_eq_true rfl, Nat.le_of_ble_eq_true rfl⟩ (by omega) (by omega) ha_b1 (fun r H locs hL hp => ?_)
  obtain ⟨rfl, ⟨ta, ha_b1, hta, taz⟩, hC1⟩ := hp
  have hzzb1 := hz_b1
  have ob := ob.chg hC1 (by omega)
  have hbf := hbf.keep hC1 (fun q hq y => by have := hq.2; omega)
  have hE := hE.chgx hC1 (fun q hq => hq.elim (fun y => y ▸ sz_b1) (fun y => Nat.le_trans hE.1 y))
  have hF : RdF g (fun q => K q = 3 ∧ q < z) b1 ta o := ⟨lo_b1, by omega, by omega, by omega, by omega, fun y => by have := y.2; omega, fun y => by have := y.2; omega⟩
  refine Ct.callV (ct_X7_isWhole l g (fun q => K q = 3 ∧ q < z) (S.1 4) ln 0 0 0 (fun _ => 0) b1 ta o sta dq sl bf hh hF (Nat.zero_le _)) X hL hl vb_X7_isWhole q924 (ha_b1.recv hKV rfl) rfl rfl (Nat.le_of_ble_eq_true rfl) dX1_follow_8 ⟨Nat.le_of_ble_eq_true rfl, Nat.le_of_ble_eq_true rfl⟩ (by omega) (by omega) ⟨ha_b1, hta, ob, hbf⟩ (fun r H locs hL hp => ?_)
  obtain ⟨rfl, ⟨w1, sd1, tf1, ha_b1, hta, ob, hbf⟩, hC1⟩ := hp
  have hE := hE.chgx hC1 (fun q hq => hq.elim (fun y => y ▸ sz_b1) (fun y => by omega))
  refine Ce.callS (ct_X1_require l g hl0 (decide ((fauG (S.1 4) ln (ln + 1) 0).1 = (-1))) ) X ht hL hl sb_X1_require q1323 rfl rfl (Nat.le_of_ble_eq_true rfl) dX1_follow_11 ⟨Nat.le_of_ble_eq_true rfl, Nat.le_of_ble_eq_true rfl⟩ (by omega) (by omega) trivial (fun E1 H1 hx => OpX.x1 (s_fol_1 (of_decide_eq_false hx.2.1)) hx.1 (hsk.ext (hE.trans hx.2.2)).x (hE.trans hx.2.2).chg) (fun r H locs hL hp => ?_)
  obtain ⟨rfl, hHH, hc⟩ := hp
  subst hHH
  have hfa := of_decide_eq_true hc
  refine lv_aload_n hx hb dX1_follow_14 rfl (lv_at hl 0 rfl) ?_
  refine r_get (C := RX1) (T := TX1) (N := 5) (ci := 1) X in_X1 rfl 0 (Nat.le_of_ble_eq_true rfl) q280 (fun _ h => h) ob rfl dX1_follow_15 ?_
  obtain ⟨z1, hz1⟩ : ∃ z, H.size = z := ⟨_, rfl⟩
  have hEz1 := hE.1
  refine Ct.callV (ct_X2_twin l g (fun q => K q = 5 + sta) (fun q => K q = 4 ∧ q < z) (S.1 0) n x sta ) X hL hl vb_X2_twin q326 ((hst0.ext hE).recv hKV) rfl rfl (Nat.le_of_ble_eq_true rfl) dX1_follow_18 ⟨Nat.le_of_ble_eq_true rfl, Nat.le_of_ble_eq_true rfl⟩ (by omega) (by omega) (hst0.ext hE) (fun r H locs hL hp => ?_)
  obtain ⟨t, htw, rfl, hE1⟩ := hp
  rw [hz1] at htw
  have htw := htw.mono (P1 := fun q => z1 ≤ q ∧ q < H.size) (I1 := (fun q => K q = 4 ∧ q < z)) (fun q u v => ⟨u, v⟩) (fun q u _ => u)
  obtain ⟨z2, hz2⟩ : ∃ z, H.size = z := ⟨_, rfl⟩
  rw [hz2] at htw
  have ob := ob.ext hE1
  have hbf := hbf.ext hE1
  have hE := hE.trans hE1
  refine lv_astore_n (lv' := [(1, .ref _), (0, .ref _)]) hx hb dX1_follow_21 rfl hl (by decide) rfl (fun ls hl => ?_)
  obtain ⟨b2, hb2⟩ : ∃ b, H.size = b := ⟨_, rfl⟩
  have sz_b2 : s.heap.size ≤ b2 := by rw [← hb2]; exact hE.1
  have lo_b2 : gLo g ≤ b2 := Nat.le_trans X.2.2.2.2.2.2.2.1.2.1 sz_b2
  have ne_o_b2 : o ≠ b2 := Nat.ne_of_lt (by rw [← hb2]; exact ob.lt)
  refine r_new (C := RX7) (T := TX7) (N := 5) (ci := 6) X in_X7 tyX7 tyX7_ok q901 q902 q130 rfl (fs := [.int 0, .int 0, .int 0, .null, .null]) (fun j hj => by rcases j with _ | _ | _ | _ | _ | j <;> first | rfl | omega) (by show _ + 1 ≤ 690; omega) (by show _ + 5 ≤ 9600; omega) dX1_follow_22 (fun H ha_b2 hE_b2 hz_b2 => ?_)
  rw [hb2] at ha_b2 hz_b2 ⊢
  have ob := ob.ext hE_b2
  have hE := hE.trans hE_b2
  have hbf := hbf.ext hE_b2
  have htw := htw.ext hE_b2
  refine lv_dup hx hb dX1_follow_25 rfl ?_
  refine lv_aload_n hx hb dX1_follow_26 rfl (lv_at hl 1 rfl) ?_
  refine Ct.callIN (ct_X7_init l g b2 o lo_b2) X hL hl ib_X7_init q903 rfl rfl (Nat.le_of_ble_eq_true rfl) dX1_follow_27 ⟨Nat.le_of_ble_eq_true rfl, Nat.le_of_ble_eq_true rfl⟩ (by omega) (by omega) ha_b2 (fun r H locs hL hp => ?_)
  obtain ⟨rfl, ⟨tb, ha_b2, htb, tbz⟩, hC1⟩ := hp
  have hzzb2 := hz_b2
  have ob := ob.chg hC1 (by omega)
  have hbf := hbf.keep hC1 (fun q hq y => by have := hq.2; omega)
  have htw := htw.keep hC1 (fun q hq y => by have := hq.2; omega) (fun q hq y => by have := hq.2; omega) (by omega)
  have hE := hE.chgx hC1 (fun q hq => hq.elim (fun y => y ▸ sz_b2) (fun y => Nat.le_trans hE.1 y))
  have hF : RdF g (fun q => K q = 3 ∧ q < z) b2 tb o := ⟨lo_b2, by omega, by omega, by omega, by omega, fun y => by have := y.2; omega, fun y => by have := y.2; omega⟩
  refine lv_aload_n hx hb dX1_follow_30 rfl (lv_at hl 0 rfl) ?_
  refine Ce.callV (ct_X7_allOn l g (fun q => K q = 3 ∧ q < z) (S.1 4) ln 0 0 0 (fun _ => 0) b2 tb o sta dq sl bf hh (fun q => K q = 4 ∧ q < z) z (S.1 0) n t hF (Nat.zero_le _) (by omega) (by omega) (fun q hq => hq.2) (fun q hq => hq.2) hl0 (by omega) (by omega) hfa) X ht hL hl vb_X7_allOn q1486 (ha_b2.recv hKV rfl) rfl rfl (Nat.le_of_ble_eq_true rfl) dX1_follow_31 ⟨Nat.le_of_ble_eq_true rfl, Nat.le_of_ble_eq_true rfl⟩ (by omega) (by omega) ⟨⟨ha_b2, htb, ob, hbf⟩, ThW.mk htw (fun q u _ => ⟨by have := u.1; omega, fun y => y.elim (fun y => by have := u.2; omega) (fun y => by have := u.2; omega)⟩) (fun q u _ => ⟨Or.inl u, fun y => by have := u.2; have := y.1; omega⟩)⟩ (fun E1 H1 hx => OpX.x2 (s_fol_2 hfa hx.2.1) hx.1 (hsk.ext (hE.chgx hx.2.2 (fun q hq => by have hq : z ≤ q := hq; omega))).x (hE.chgx hx.2.2 (fun q hq => by have hq : z ≤ q := hq; omega)).chg) (fun r H locs hL hp => ?_)
  obtain ⟨rfl, hfo, hTW, hC1⟩ := hp
  have ob := ob.chg hC1 (fun y => by have y : z ≤ o := y; omega)
  have hE := hE.chgx hC1 (fun q hq => by have hq : z ≤ q := hq; omega)
  obtain ⟨P, I, x2, hst2, hPq, hIq⟩ := hTW
  obtain ⟨Kp, kp1, kp2⟩ : ∃ Kp : Nat → Nat, (∀ q, q < z → Kp q = K q) ∧ ∀ q, z ≤ q → Kp q = 0 := ⟨fun q => if q < z then K q else 0, fun q h => if_pos h, fun q h => if_neg (by omega)⟩
  have hKo : SkK g F S n st ln hf hs o Kp sta dq sl bf xs fs hh H := ⟨fun q hq => by rw [kp1 q (hq.elim (fun y => by omega) (fun y => by have := hFs q y; omega))]; exact hK0 q hq, fun q hq => Nat.lt_of_lt_of_le (hFs q hq) hE.1, (hB.re (fun q hq => (kp1 q (by omega)).symm)).ext hE, (hS.re (fun q hq => (kp1 q (by omega)).symm)).ext hE, hJ⟩
  refine lv_aload_n hx hb dX1_follow_34 rfl (lv_at hl 1 rfl) ?_
  refine Ct.callV (ct_X1_save l g F S n st ln hf hs o Kp sta dq sl bf xs fs hh ) X hL hl vb_X1_save q301 (ob.recv hKV rfl) rfl rfl (Nat.le_of_ble_eq_true rfl) dX1_follow_35 ⟨Nat.le_of_ble_eq_true rfl, Nat.le_of_ble_eq_true rfl⟩ (by omega) (by omega) hKo (fun r H locs hL hp => ?_)
  obtain ⟨rfl, K1, xs1, ⟨hK10, hF1, hB2, hS2, hJ2⟩, hKK, hC1⟩ := hp
  have hPk : ∀ q, P q → K1 q = 0 := fun q hq => by rw [hKK q (hPq q hq).2.2]; exact kp2 q (hPq q hq).1
  have hIk : ∀ q, I q → K1 q = 4 ∨ K1 q = 0 := fun q hq => by
    rw [hKK q (hIq q hq).2.2]
    rcases (hIq q hq).1 with u | u
    · left; rw [kp1 q u.2]; exact u.1
    · right; exact kp2 q u.1
  have hst2 := hst2.keep hC1 (fun q hq y => by have y : Kp q = 2 := y; have := hPk q hq; rw [hKK q (hPq q hq).2.2] at this; omega) (fun q hq y => by have y : Kp q = 2 := y; have := hIk q hq; rw [hKK q (hIq q hq).2.2] at this; omega) (fun y => by have y : Kp (gE g) = 2 := y; rw [kp1 _ (by omega)] at y; have := hK0 _ (Or.inl hgE); omega)
  have hC : Chg (fun q => ¬ F q) s.heap H := chg_new hE.chg hC1 (fun q hq y u => by have y : Kp q = 2 := y; rw [kp1 q (by omega)] at y; have := hK0 q (Or.inr u); omega)
  have hHl := hC1.1
  have hEl := hE.1
  obtain ⟨⟨ob, -⟩, -⟩ := id hB2
  have hKt : K1 t = 0 := hPk t hst2.facts.1
  obtain ⟨K2, e1, e2, e3⟩ := k_three P I K1 (5 + t) (fun q hq => (hIq q hq).2.1)
  have hre : ∀ q, q < H.size → K1 q ≠ 0 → K2 q = K1 q := fun q _ hq => by
    by_cases u : P q
    · exact absurd (hPk q u) hq
    · by_cases v : I q
      · rcases hIk q v with w | w
        · rw [w]; exact e2 q v
        · exact absurd w hq
      · exact e3 q u v
  have hB3 := hB2.re' hre
  have ht : StK g K2 (folG (S.1 4) ln (ln + 1) 0 (S.1 0) n).2.1 (folG (S.1 4) ln (ln + 1) 0 (S.1 0) n).2.2 t H := ⟨RO_folG hbl.1 ln 0 (S.1 0) n (Nat.zero_le _) (by omega) hRO h160 hn hfa, x2, hst2.mono (fun q u _ => e1 q u) (fun q u _ => e2 q u)⟩
  have hK20 : ∀ q, (q < gLo g ∨ F q) → K2 q = 0 := fun q hq => by
    have hqz : q < z := hq.elim (fun y => by omega) (fun y => by have := hFs q y; omega)
    have hq0 := hK0 q hq
    by_cases u : P q
    · have := (hPq q u).1; omega
    · by_cases v : I q
      · rcases (hIq q v).1 with w | w
        · have := w.1; omega
        · have := w.1; omega
      · rw [e3 q u v]; exact hK10 q hq
  have hn2 : ∀ j, j < recN st + 1 → xs1 j ≠ t := fun j hj y => by obtain ⟨m, hm⟩ := (hB2.2.2.2.2.1 j hj).2; have := hm.facts.2.2.2.2.1; rw [y] at this; omega
  have hn3 : ∀ q w, q < 2 → fs q = some w → w ≠ t := fun q w hq e y => by obtain ⟨w2, m, u1, -, -, u4⟩ := slot_at hB2 hq (slot_yes hB2 hq e); rw [e] at u1; cases u1; have := u4.facts.2.2.2.2.1; rw [y] at this; omega
  refine lv_aload_n hx hb dX1_follow_38 rfl (lv_at hl 1 rfl) ?_
  refine lv_aload_n hx hb dX1_follow_39 rfl (lv_at hl 0 rfl) ?_
  refine r_put (C := RX1) (T := TX1) (N := 5) (ci := 1) X in_X1 tyX1 tyX1_ok nmX1 rfl 0 (Nat.le_of_ble_eq_true rfl) q280 (fun _ h => h) rfl hL ob loo rfl rfl (Nat.le_of_ble_eq_true rfl) dX1_follow_40 (fun H locs hL h1 h2 => ?_)
  have ob : Ob g o 1 [.ref t, .ref dq, .ref sl, .ref bf, .long hh] H := h1
  have hB4 := hB3.sta' (h2.chg rfl) ob hn2 hn3 hgE
  have hKo2 := hB4.1.2.1
  have ht := ht.keep (h2.chg (P := fun q => q = o) rfl) (fun q hq y => by rw [y] at hq; omega) (fun q hq y => by rw [y] at hq; omega) (by omega)
  have hC := hC.trans (h2.chg (P := (fun q => ¬ F q)) (fun y => by have := hK0 _ (Or.inr y); omega))
  have hF4 : ∀ q, F q → q < H.size := fun q hq => by have := hF1 q hq; have := h2.1; omega
  have hbf := hB4.2.2.1
  refine lv_aload_n hx hb dX1_follow_43 rfl (lv_at hl 1 rfl) ?_
  refine r_get (C := RX1) (T := TX1) (N := 5) (ci := 1) X in_X1 rfl 3 (Nat.le_of_ble_eq_true rfl) q284 (fun _ h => h) ob rfl dX1_follow_44 ?_
  refine lv_iconst (v := nI 0) hx hb dX1_follow_47 (by decide) ?_
  refine Ct.callV (ct_J5_setLength l g (fun q => K2 q = 3) (S.1 4) ln bf ) X hL hl vb_J5_setLength q628 (hbf.recv hKV) rfl rfl (Nat.le_of_ble_eq_true rfl) dX1_follow_48 ⟨Nat.le_of_ble_eq_true rfl, Nat.le_of_ble_eq_true rfl⟩ (by omega) (by omega) hbf (fun r H locs hL hp => ?_)
  obtain ⟨rfl, hbf, hC1⟩ := hp
  have hK2E := hK20 _ (Or.inl hgE)
  have hB5 := hB4.buf hC1 (hbf (S.1 4)) hK2E
  have ht := ht.keep hC1 (fun q hq y => by have y : K2 q = 3 := y; omega) (fun q hq y => by have y : K2 q = 3 := y; omega) (fun y => by have y : K2 (gE g) = 3 := y; omega)
  have ob := hB5.1.1
  have hfin : SkR g F (uS (upR S st (folG (S.1 4) ln (ln + 1) 0 (S.1 0) n).2.1) 13 (nI 0)) (folG (S.1 4) ln (ln + 1) 0 (S.1 0) n).2.2 (recN st + 1) 0 hf hs o H := ⟨K2, t, dq, sl, bf, xs1, fs, hh, hK20, fun q hq => Nat.lt_of_lt_of_le (hF4 q hq) hC1.1, hB5, ht, hJ2.1, rfl, hJ2.2.2⟩
  have hC := hC.trans (hC1.mono (fun q hq y => by have hq : K2 q = 3 := hq; have := hK20 q (Or.inr y); omega))
  obtain ⟨-, x3, hst3⟩ := id ht
  obtain ⟨sb, sd, PG, PS, obs, hbg, -, -, -⟩ := hst3.q
  refine lv_aload_n hx hb dX1_follow_51 rfl (lv_at hl 1 rfl) ?_
  refine r_get (C := RX1) (T := TX1) (N := 5) (ci := 1) X in_X1 rfl 0 (Nat.le_of_ble_eq_true rfl) q280 (fun _ h => h) ob rfl dX1_follow_52 ?_
  refine r_getN (C := RX2) (T := TX2) (N := 4) (ci := 2) X in_X2 rfl 0 (Nat.le_of_ble_eq_true rfl) q211 (fun _ h => h) obs rfl dX1_follow_55 ?_
  refine Cp.callV (v := .int (nI _)) (ct_X3_size l g PG _ _ sb ) X hL hl vb_X3_size q993 (hbg.recv hKV) rfl rfl (Nat.le_of_ble_eq_true rfl) dX1_follow_58 ⟨Nat.le_of_ble_eq_true rfl, Nat.le_of_ble_eq_true rfl⟩ (by omega) (by omega) hbg (fun locs hL => ?_)
  rw [rng_len]
  exact vx_ret (r_iret X hL rfl rfl dX1_follow_61 (by omega) (by omega) (OpP.mk (s_fol_0 hfa hfo) rfl hfin.x hC))
theorem vb_X1_follow : VB yX1_follow cX1_follow 2 (some .int) 0 := ⟨q1483, q1484, q99, q1485, ⟨by decide, by decide, by decide +kernel⟩⟩

set_option maxRecDepth 100000 in
set_option maxHeartbeats 4000000 in
theorem ct_X1_init (l : Launch) (g : GT) (a : Nat) (l1 : gLo g ≤ a) : Ct l g yX1_init cX1_init 1 none 8 14 130 [.ref a] (Ob g a 1 [.null, .null, .null, .null, .long 0]) (fun r H H1 => r = none ∧ SkR g (fun q => q < H.size ∧ q ≠ a) S00 0 0 0 false false a H1 ∧ Chg (fun q => q = a ∨ H.size ≤ q) H H1) := by
  refine Ct.of (by decide) (Nat.le_of_ble_eq_true rfl) ?_
  intro p e s m args below meth c X hP ls hl
  have hx := X.1
  have hb := X.2.1
  have hKV := X.2.2.2.2.2.2.2.1.1
  have hL : ∀ q ∈ ([] : List Loc), gLo g ≤ q.base := fun _ h => by cases h
  have ob := hP
  have hal := ob.lt
  have hgE := hKV.gE
  have hl : lv_has ls 1 [(0, .ref a)] := hl
  have hC : Chg (fun q => q = a ∨ s.heap.size ≤ q) s.heap s.heap := Chg.rfl'
  refine lv_aload_n hx hb dX1_init_0 rfl (lv_at hl 0 rfl) ?_
  refine W.objInit hx hb X.2.2.2.1 (X.2.2.2.2.1 _ q137) (X.2.2.2.2.1 _ q138) (X.2.2.2.2.1 _ q139) rfl (hl.1.trans X.2.2.1.symm) rfl dX1_init_1 (Nat.le_of_ble_eq_true rfl) (Nat.le_of_ble_eq_true rfl) ?_
  refine lv_aload_n hx hb dX1_init_4 rfl (lv_at hl 0 rfl) ?_
  obtain ⟨b1, hb1⟩ : ∃ b, s.heap.size = b := ⟨_, rfl⟩
  have sz_b1 : s.heap.size ≤ b1 := by rw [← hb1]; exact Nat.le_refl _
  have lo_b1 : gLo g ≤ b1 := Nat.le_trans X.2.2.2.2.2.2.2.1.2.1 sz_b1
  have p_b1 : (fun q => q = a ∨ s.heap.size ≤ q) b1 := (fun q hq => Or.inr hq : ∀ q, s.heap.size ≤ q → (fun q => q = a ∨ s.heap.size ≤ q) q) b1 sz_b1
  have ne_a_b1 : a ≠ b1 := Nat.ne_of_lt (by rw [← hb1]; exact ob.lt)
  refine r_new (C := RX2) (T := TX2) (N := 4) (ci := 2) X in_X2 tyX2 tyX2_ok q140 q141 q100 rfl (fs := [.null, .null, .int 0, .int 0]) (fun j hj => by rcases j with _ | _ | _ | _ | _ | j <;> first | rfl | omega) (by show _ + 1 ≤ 14; omega) (by show _ + 4 ≤ 130; omega) dX1_init_5 (fun H ha_b1 hE_b1 hz_b1 => ?_)
  rw [hb1] at ha_b1 hz_b1 ⊢
  have ob := ob.ext hE_b1
  have hC := hC.trans hE_b1.chg
  refine lv_dup hx hb dX1_init_8 rfl ?_
  refine Ct.callIN (ct_X2_init l g b1 lo_b1) X hL hl ib_X2_init q142 rfl rfl (Nat.le_of_ble_eq_true rfl) dX1_init_9 ⟨Nat.le_of_ble_eq_true rfl, Nat.le_of_ble_eq_true rfl⟩ (by omega) (by omega) ha_b1 (fun r H locs hL hp => ?_)
  obtain ⟨rfl, hst0, hC1⟩ := hp
  have hszC := hC1.1
  have hzb1 := hz_b1
  have hst1 := (hst0 (fun _ => False) (fun j => j)).mono (P1 := fun q => b1 ≤ q ∧ q < H.size) (I1 := fun _ => False) (fun q u v => ⟨by omega, v⟩) (fun _ u _ => u)
  obtain ⟨z1, hz1⟩ : ∃ z, H.size = z := ⟨_, rfl⟩
  rw [hz1] at hst1
  have ob := ob.chg hC1 (by omega)
  have hC := hC.trans (hC1.mono (fun q hq => Or.inr (by omega)))
  refine r_put (C := RX1) (T := TX1) (N := 5) (ci := 1) X in_X1 tyX1 tyX1_ok nmX1 rfl 0 (Nat.le_of_ble_eq_true rfl) q280 (fun _ h => h) rfl hL ob l1 rfl rfl (Nat.le_of_ble_eq_true rfl) dX1_init_12 (fun H locs hL h1 h2 => ?_)
  have ob : Ob g a 1 [.ref b1, .null, .null, .null, .long 0] H := h1
  have hC := hC.trans (h2.chg (Or.inl rfl))
  have hszP := h2.1
  have hst1 := hst1.keep (Q := fun q => q = a) (h2.chg rfl) (fun q hq y => by have := hq.1; omega) (fun q hq => hq.elim) (by omega)
  refine lv_aload_n hx hb dX1_init_15 rfl (lv_at hl 0 rfl) ?_
  obtain ⟨b2, hb2⟩ : ∃ b, H.size = b := ⟨_, rfl⟩
  have sz_b2 : s.heap.size ≤ b2 := by rw [← hb2]; exact hC.1
  have lo_b2 : gLo g ≤ b2 := Nat.le_trans X.2.2.2.2.2.2.2.1.2.1 sz_b2
  have p_b2 : (fun q => q = a ∨ s.heap.size ≤ q) b2 := (fun q hq => Or.inr hq : ∀ q, s.heap.size ≤ q → (fun q => q = a ∨ s.heap.size ≤ q) q) b2 sz_b2
  have ne_a_b2 : a ≠ b2 := Nat.ne_of_lt (by rw [← hb2]; exact ob.lt)
  refine r_new (C := RJ3) (T := TJ3) (N := 3) (ci := 8) X in_J3 tyJ3 tyJ3_ok q227 q228 q106 rfl (fs := [.null, .int 0, .int 0]) (fun j hj => by rcases j with _ | _ | _ | _ | _ | j <;> first | rfl | omega) (by show _ + 1 ≤ 14; omega) (by show _ + 3 ≤ 130; omega) dX1_init_16 (fun H ha_b2 hE_b2 hz_b2 => ?_)
  rw [hb2] at ha_b2 hz_b2 ⊢
  have ob := ob.ext hE_b2
  have hst1 := hst1.ext hE_b2
  have hC := hC.trans hE_b2.chg
  refine lv_dup hx hb dX1_init_19 rfl ?_
  refine lv_bipush (v := nI 6) hx hb dX1_init_20 (by decide) ?_
  refine Ct.callI (ct_J3_init l g b2 lo_b2) X hL hl ib_J3_init q229 rfl rfl (Nat.le_of_ble_eq_true rfl) dX1_init_22 ⟨Nat.le_of_ble_eq_true rfl, Nat.le_of_ble_eq_true rfl⟩ (by omega) (by omega) (by rw [nI_0]; exact ha_b2) (fun r H locs hL hp => ?_)
  obtain ⟨rfl, hdq0, hC1⟩ := hp
  have hszC := hC1.1
  have hzb2 := hz_b2
  have hdq := (hdq0 (fun _ => 0)).to (Q := fun q => b2 ≤ q ∧ q < H.size) (fun _ _ => rfl) (fun q u v => ⟨by omega, v⟩)
  obtain ⟨z2, hz2⟩ : ∃ z, H.size = z := ⟨_, rfl⟩
  rw [hz2] at hdq
  have ob := ob.chg hC1 (by omega)
  have hst1 := hst1.keep hC1 (fun q hq y => by have := hq.2; omega) (fun q hq => hq.elim) (by omega)
  have hC := hC.trans (hC1.mono (fun q hq => Or.inr (by omega)))
  refine r_putF (C := RX1) (T := TX1) (N := 5) (ci := 1) X in_X1 tyX1 tyX1_ok nmX1 rfl 1 (Nat.le_of_ble_eq_true rfl) q281 (fun _ h => h) rfl rfl rfl hL ob l1 rfl rfl (Nat.le_of_ble_eq_true rfl) dX1_init_25 (fun H locs hL h1 h2 => ?_)
  have ob : Ob g a 1 [.ref b1, .ref b2, .null, .null, .long 0] H := h1
  have hC := hC.trans (h2.chg (Or.inl rfl))
  have hszP := h2.1
  have hst1 := hst1.keep (Q := fun q => q = a) (h2.chg rfl) (fun q hq y => by have := hq.1; omega) (fun q hq => hq.elim) (by omega)
  have hdq := hdq.keep (Q := fun q => q = a) (h2.chg rfl) (fun q hq y => by have := hq.1; omega)
  refine lv_aload_n hx hb dX1_init_28 rfl (lv_at hl 0 rfl) ?_
  refine lv_iconst (v := nI 2) hx hb dX1_init_29 (by decide) ?_
  obtain ⟨b3, hb3⟩ : ∃ b, H.size = b := ⟨_, rfl⟩
  have sz_b3 : s.heap.size ≤ b3 := by rw [← hb3]; exact hC.1
  have lo_b3 : gLo g ≤ b3 := Nat.le_trans X.2.2.2.2.2.2.2.1.2.1 sz_b3
  have p_b3 : (fun q => q = a ∨ s.heap.size ≤ q) b3 := (fun q hq => Or.inr hq : ∀ q, s.heap.size ≤ q → (fun q => q = a ∨ s.heap.size ≤ q) q) b3 sz_b3
  have ne_a_b3 : a ≠ b3 := Nat.ne_of_lt (by rw [← hb3]; exact ob.lt)
  refine r_newq (k := 5) (N' := 2) X q140 q246 rfl (nI_pos (by omega)) (nI_clamp (by omega)) (by omega) (by show _ + 1 ≤ 14; omega) (by show _ + 2 ≤ 130; omega) dX1_init_30 (fun H ha_b3 hE_b3 hz_b3 => ?_)
  rw [hb3] at ha_b3 hz_b3 ⊢
  have ob := ob.ext hE_b3
  have hst1 := hst1.ext hE_b3
  have hdq := hdq.ext hE_b3
  have hC := hC.trans hE_b3.chg
  have hzb3 := hz_b3
  refine r_putF (C := RX1) (T := TX1) (N := 5) (ci := 1) X in_X1 tyX1 tyX1_ok nmX1 rfl 2 (Nat.le_of_ble_eq_true rfl) q282 (fun _ h => h) rfl rfl rfl hL ob l1 rfl rfl (Nat.le_of_ble_eq_true rfl) dX1_init_33 (fun H locs hL h1 h2 => ?_)
  have ob : Ob g a 1 [.ref b1, .ref b2, .ref b3, .null, .long 0] H := h1
  have ha_b3 := ha_b3.on h2 (Ne.symm ne_a_b3)
  have hC := hC.trans (h2.chg (Or.inl rfl))
  have hszP := h2.1
  have hst1 := hst1.keep (Q := fun q => q = a) (h2.chg rfl) (fun q hq y => by have := hq.1; omega) (fun q hq => hq.elim) (by omega)
  have hdq := hdq.keep (Q := fun q => q = a) (h2.chg rfl) (fun q hq y => by have := hq.1; omega)
  refine lv_aload_n hx hb dX1_init_36 rfl (lv_at hl 0 rfl) ?_
  obtain ⟨b4, hb4⟩ : ∃ b, H.size = b := ⟨_, rfl⟩
  have sz_b4 : s.heap.size ≤ b4 := by rw [← hb4]; exact hC.1
  have lo_b4 : gLo g ≤ b4 := Nat.le_trans X.2.2.2.2.2.2.2.1.2.1 sz_b4
  have p_b4 : (fun q => q = a ∨ s.heap.size ≤ q) b4 := (fun q hq => Or.inr hq : ∀ q, s.heap.size ≤ q → (fun q => q = a ∨ s.heap.size ≤ q) q) b4 sz_b4
  have ne_a_b4 : a ≠ b4 := Nat.ne_of_lt (by rw [← hb4]; exact ob.lt)
  have ne_b3_b4 : b3 ≠ b4 := Nat.ne_of_lt (by rw [← hb4]; exact ha_b3.lt)
  refine r_new (C := RJ5) (T := TJ5) (N := 4) (ci := 9) X in_J5 tyJ5 tyJ5_ok q247 q248 q108 rfl (fs := [.null, .int 0, .int 0, .int 0]) (fun j hj => by rcases j with _ | _ | _ | _ | _ | j <;> first | rfl | omega) (by show _ + 1 ≤ 14; omega) (by show _ + 4 ≤ 130; omega) dX1_init_37 (fun H ha_b4 hE_b4 hz_b4 => ?_)
  rw [hb4] at ha_b4 hz_b4 ⊢
  have ob := ob.ext hE_b4
  have ha_b3 := ha_b3.ext hE_b4
  have hst1 := hst1.ext hE_b4
  have hdq := hdq.ext hE_b4
  have hC := hC.trans hE_b4.chg
  refine lv_dup hx hb dX1_init_40 rfl ?_
  refine lv_bipush (v := nI 60) hx hb dX1_init_41 (by decide) ?_
  refine Ct.callI (ct_J5_init l g b4 lo_b4) X hL hl ib_J5_init q249 rfl rfl (Nat.le_of_ble_eq_true rfl) dX1_init_43 ⟨Nat.le_of_ble_eq_true rfl, Nat.le_of_ble_eq_true rfl⟩ (by omega) (by omega) (by rw [nI_0]; exact ha_b4) (fun r H locs hL hp => ?_)
  obtain ⟨rfl, hbf0, hC1⟩ := hp
  have hszC := hC1.1
  have hzb4 := hz_b4
  have hbf := (hbf0 (fun _ => 0)).to (Q := fun q => b4 ≤ q) (fun q u v => by omega)
  have ob := ob.chg hC1 (by omega)
  have ha_b3 := ha_b3.chg hC1 (by omega)
  have hst1 := hst1.keep hC1 (fun q hq y => by have := hq.2; omega) (fun q hq => hq.elim) (by omega)
  have hdq := hdq.keep hC1 (fun q hq y => by have := hq.2; omega)
  have hC := hC.trans (hC1.mono (fun q hq => Or.inr (by omega)))
  refine r_putF (C := RX1) (T := TX1) (N := 5) (ci := 1) X in_X1 tyX1 tyX1_ok nmX1 rfl 3 (Nat.le_of_ble_eq_true rfl) q284 (fun _ h => h) rfl rfl rfl hL ob l1 rfl rfl (Nat.le_of_ble_eq_true rfl) dX1_init_46 (fun H locs hL h1 h2 => ?_)
  have ob : Ob g a 1 [.ref b1, .ref b2, .ref b3, .ref b4, .long 0] H := h1
  have ha_b3 := ha_b3.on h2 (Ne.symm ne_a_b3)
  have hC := hC.trans (h2.chg (Or.inl rfl))
  have hszP := h2.1
  have hst1 := hst1.keep (Q := fun q => q = a) (h2.chg rfl) (fun q hq y => by have := hq.1; omega) (fun q hq => hq.elim) (by omega)
  have hdq := hdq.keep (Q := fun q => q = a) (h2.chg rfl) (fun q hq y => by have := hq.1; omega)
  have hbf := hbf.keep (Q := fun q => q = a) (h2.chg rfl) (fun q hq y => by have hq : b4 ≤ q := hq; omega)
  have hal2 := ob.lt
  obtain ⟨K, hKd⟩ : ∃ K : Nat → Nat, ∀ q, K q = if q < b1 then (if q = a then 1 else 0) else if q < b2 then 5 + b1 else if q < b3 then 2 else if q = b3 then 1 else 3 := ⟨_, fun _ => rfl⟩
  have hb12 : b1 = s.heap.size := by omega
  have hsz1 := hst1.lt
  have hsz3 := ha_b3.lt
  have hSB : SkB g K (S00.1 2) (S00.1 3) (S00.1 4) 0 0 false false a b1 b2 b3 b4 (fun _ => 0) (fun _ => none) 0 H := ⟨⟨ob, by rw [hKd, if_pos (by omega), if_pos rfl], by rw [hKd, if_neg (by omega), if_neg (by omega), if_neg (by omega), if_pos rfl], by omega, l1, lo_b3⟩, hdq.to (fun _ _ => rfl) (fun q u v => by show K q = 2; rw [hKd, if_neg (by omega), if_neg (by omega), if_pos (by omega)]), hbf.to (fun q u v => by have u : b4 ≤ q := u; show K q = 3; rw [hKd, if_neg (by omega), if_neg (by omega), if_neg (by omega), if_neg (by omega)]), ha_b3, fun j hj => absurd hj (Nat.not_lt_zero _), fun i j hi => absurd hi (Nat.not_lt_zero _), fun q hq => by rw [if_neg (by split <;> decide)]⟩
  have hSK : StK g K (S00.1 0) 0 b1 H := ⟨RO_row0, _, hst1.mono (fun q u _ => by show K q = 5 + b1; rw [hKd, if_neg (by omega), if_pos (by omega)]) (fun q u _ => u.elim)⟩
  exact r_vret X hL dX1_init_49 (by omega) (by omega) ⟨rfl, ⟨K, b1, b2, b3, b4, _, _, 0, fun q hq => by rw [hKd, if_pos (hq.elim (fun y => by omega) (fun y => by have := y.1; omega)), if_neg (hq.elim (fun y => by omega) (fun y => y.2))], fun q hq => by have := hq.1; have := hC.1; omega, hSB, hSK, rfl, rfl, rfl, rfl⟩, hC⟩
theorem ib_X1_init : IB yX1_init cX1_init 1 0 := ⟨q135, q99, q136, rfl, ⟨by decide, by decide, by decide +kernel⟩⟩
