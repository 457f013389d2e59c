/-! the reader: parts -/
theorem nl_t {f : Nat → Int32} {n i t : Nat} (ht : 9 ≤ t) (ht2 : t ≤ 99) (h : ¬ nvI f n 0 t i = (-1)) : (pnS f n i t).1 = true ∧ nvI f n 0 t i = nbI f n i t := by
  rcases (nv_lo (f := f) (n := n) (i := i) ht ht2).2 with ⟨h1, h2, -⟩ | ⟨-, h2⟩
  · exact ⟨h1, h2⟩
  · exact absurd h2 h
theorem nl_f {f : Nat → Int32} {n i t : Nat} (ht : 9 ≤ t) (ht2 : t ≤ 99) (h : nvI f n 0 t i = (-1)) : (pnS f n i t).1 = false := by
  rcases (nv_lo (f := f) (n := n) (i := i) ht ht2).2 with ⟨-, h2, m, h3, h4⟩ | ⟨h1, -⟩
  · rw [h2, h4] at h; exact absurd h (nI_nm1 (by omega))
  · exact h1
theorem nl_m {f : Nat → Int32} {n i t : Nat} (ht : 9 ≤ t) (ht2 : t ≤ 99) (h : ¬ nvI f n 0 t i = (-1)) : ∃ m, m ≤ t ∧ nvI f n 0 t i = nI m := by
  rcases (nv_lo (f := f) (n := n) (i := i) ht ht2).2 with ⟨-, h2, m, h3, h4⟩ | ⟨-, h2⟩
  · exact ⟨m, h3, h2.trans h4⟩
  · exact absurd h2 h
theorem nh_t {f : Nat → Int32} {n i t : Nat} (ht : t ≤ 99) (h : ¬ nvI f n t 99 i = (-1)) : (pfS f n i (nI t)).1 = true ∧ nvI f n t 99 i = numI f i ((pfS f n i (nI t)).2 - i) := by
  rcases (nv_hi (f := f) (n := n) (i := i) ht).2 with ⟨h1, h2, -⟩ | ⟨-, h2⟩
  · exact ⟨h1, h2⟩
  · exact absurd h2 h
theorem nh_f {f : Nat → Int32} {n i t : Nat} (ht : t ≤ 99) (h : nvI f n t 99 i = (-1)) : (pfS f n i (nI t)).1 = false := by
  rcases (nv_hi (f := f) (n := n) (i := i) ht).2 with ⟨-, -, m, h3, h4, h5⟩ | ⟨h1, -⟩
  · rw [h5] at h; exact absurd h (nI_nm1 (by omega))
  · exact h1
theorem dgm_t {b : Bool} {v : Int32} (h : ¬ (if b then v else (-1)) = (-1 : Int32)) : b = true := by
  cases b
  · exact absurd rfl h
  · rfl
theorem dgm_f {f : Nat → Int32} {n i : Nat} (h : (if (pS f n i 48 51).1 then f i - nI 48 else (-1)) = (-1 : Int32)) : (pS f n i 48 51).1 = false := by
  cases e : (pS f n i 48 51).1
  · rfl
  · rw [e, if_pos rfl, ← dg_v e] at h
    rcases sg_dig f n i with ⟨d, h1, h2, h3, h4⟩ | ⟨h1, h2⟩
    · rw [h4] at h; exact absurd h (nI_nm1 (by omega))
    · have := h2 48 51 (by omega) (by omega) (by omega)
      rw [show seeB f n i 48 51 = true from e] at this; exact absurd this (by decide)
theorem see_no {f : Nat → Int32} {n j a : Nat} (h : (pS f n j a a).1 = false) (hj : j < n) : ¬ f j = nI a := fun e => by
  rw [see_1.mpr ⟨hj, e⟩] at h; exact absurd h (by decide)
theorem sg_c {f : Nat → Int32} {n : Nat} (h : ∀ j, j < n → Chr (f j)) (i : Nat) : ∃ c : Nat, c < 127 ∧ sgI f n i = nI c := by
  unfold sgI
  by_cases q : i < n
  · obtain ⟨c, h1, h2, h3⟩ := h i q
    exact ⟨c, by omega, by rw [if_pos q, h3]⟩
  · exact ⟨32, by omega, if_neg q⟩
theorem ch_fits : ∀ c : Nat, c < 127 → fits .char (.int (nI c)) = true := by decide +kernel
theorem sg_nw {f : Nat → Int32} {n : Nat} (h : ∀ j, j < n → Chr (f j)) (i : Nat) : narrow .char (.int (sgI f n i)) = .int (sgI f n i) := by
  obtain ⟨c, h1, h2⟩ := sg_c h i; rw [h2]; exact ch_nw c h1
theorem sg_fits {f : Nat → Int32} {n : Nat} (h : ∀ j, j < n → Chr (f j)) (i : Nat) : fits .char (.int (sgI f n i)) = true := by
  obtain ⟨c, h1, h2⟩ := sg_c h i; rw [h2]; exact ch_fits c h1

set_option maxRecDepth 100000 in
set_option maxHeartbeats 4000000 in
theorem ct_X7_readValues (l : Launch) (g : GT) (PB : Nat → Prop) (f : Nat → Int32) (n i : Nat) (w sd : Int32) (tf : Nat → Int32) (rd ta o st dq sl bf : Nat) (hs : Int64) (hF : RdF g PB rd ta o) (hin : i ≤ n) : Ct l g yX7_readValues cX7_readValues 3 (some .boolean) 8 0 0 [.ref rd] (RdX g PB f n i w sd tf rd ta o st dq sl bf hs) (fun r H H1 => r = some (.int (bI (paS f n i).1)) ∧ (∃ sd1 tf1, RdX g PB f n (paS f n i).2 w sd1 tf1 rd ta o st dq sl bf hs H1 ∧ ((paS f n i).1 = true → tf1 0 = nbI f n i 99 ∧ tf1 1 = nbI f n ((pnS f n i 99).2 + 1) 99 ∧ tf1 2 = nbI f n ((pnS f n ((pnS f n i 99).2 + 1) 99).2 + 1) 99 ∧ tf1 3 = nbI f n ((pnS f n ((pnS f n ((pnS f n i 99).2 + 1) 99).2 + 1) 99).2 + 1) 99)) ∧ Chg (fun q => q = rd ∨ q = ta) H H1) := by
  refine Ct.of (by decide) (Nat.le_of_ble_eq_true rfl) ?_
  intro p e s m args below meth c X hP ls hl
  have hx := X.1
  have hb := X.2.1
  have hKV := X.2.2.2.2.2.2.2.1.1
  have hL : ∀ q ∈ ([] : List Loc), gLo g ≤ q.base := fun _ h => by cases h
  obtain ⟨orr, art, oo, hbf⟩ := hP
  obtain ⟨lrd, lta, n1, n2, n3, n4, n5⟩ := id hF
  have hl : lv_has ls 3 [(0, .ref rd)] := hl
  have hC : Chg (fun q => q = rd ∨ q = ta) s.heap s.heap := Chg.rfl'
  have hdj : ∀ q, PB q → ¬ (q = rd ∨ q = ta) := fun q hq z => z.elim (fun z => n4 (z ▸ hq)) (fun z => n5 (z ▸ hq))
  have hcr := hbf.chr
  refine lv_iconst (v := nI 1) hx hb dX7_readValues_0 (by decide) ?_
  refine lv_istore_n (lv' := [(1, .int _), (0, .ref _)]) hx hb dX7_readValues_1 rfl hl (by decide) rfl (fun ls hl => ?_)
  refine lv_iconst (v := nI 0) hx hb dX7_readValues_2 (by decide) ?_
  refine lv_istore_n (lv' := [(2, .int _), (1, .int _), (0, .ref _)]) hx hb dX7_readValues_3 rfl hl (by decide) rfl (fun ls hl => ?_)
  refine lv_iload_n hx hb dX7_readValues_4 rfl (lv_at hl 0 rfl) ?_
  refine lv_iconst (v := nI 4) hx hb dX7_readValues_5 (by decide) ?_
  refine n_icmp_ge (tgt := 75) X dX7_readValues_6 (by decide) (by omega) (by omega) (fun c_6 => ?_) (fun c_6 => ?_)
  ·
    exact absurd c_6 (by decide)
  ·
    refine lv_iload_n hx hb dX7_readValues_9 rfl (lv_at hl 1 rfl) ?_
    refine n_ifeq (tgt := 75) X dX7_readValues_10 (by decide) (by omega) (fun c_10 => ?_) (fun c_10 => ?_)
    ·
      exact absurd c_10 (by decide)
    ·
      refine lv_iload_n hx hb dX7_readValues_13 rfl (lv_at hl 0 rfl) ?_
      refine n_ifeq (tgt := 26) X dX7_readValues_14 (by decide) (by omega) (fun c_14 => ?_) (fun c_14 => ?_)
      ·
        refine lv_iconst (v := nI 1) hx hb dX7_readValues_26 (by decide) ?_
        refine lv_goto (tgt := 31) hx hb dX7_readValues_27 (by decide) ?_
        refine lv_istore_n (lv' := [(1, .int _), (2, .int _), (0, .ref _)]) hx hb dX7_readValues_31 rfl hl (by decide) rfl (fun ls hl => ?_)
        refine lv_aload_n hx hb dX7_readValues_32 rfl (lv_at hl 2 rfl) ?_
        refine r_get (C := RX7) (T := TX7) (N := 5) (ci := 6) X in_X7 rfl 3 (Nat.le_of_ble_eq_true rfl) q911 (fun _ h => h) orr rfl dX7_readValues_33 ?_
        refine lv_iload_n hx hb dX7_readValues_36 rfl (lv_at hl 1 rfl) ?_
        refine lv_iload_n hx hb dX7_readValues_37 rfl (lv_at hl 0 rfl) ?_
        refine n_ifeq (tgt := 51) X dX7_readValues_38 (by decide) (by omega) (fun c_38 => ?_) (fun c_38 => ?_)
        ·
          exact absurd c_38 (by decide)
        ·
          refine lv_aload_n hx hb dX7_readValues_41 rfl (lv_at hl 2 rfl) ?_
          refine lv_iconst (v := nI 0) hx hb dX7_readValues_42 (by decide) ?_
          refine lv_bipush (v := nI 99) hx hb dX7_readValues_43 (by decide) ?_
          refine Ct.callV (ct_X7_number l g PB f n i w sd tf rd ta o st dq sl bf hs 0 99 hF hin (by omega) (by omega)) X hL hl vb_X7_number q959 (orr.recv hKV rfl) rfl rfl (Nat.le_of_ble_eq_true rfl) dX7_readValues_45 ⟨Nat.le_of_ble_eq_true rfl, Nat.le_of_ble_eq_true rfl⟩ (by omega) (by omega) ⟨orr, art, oo, hbf⟩ (fun r H locs hL hp => ?_)
          obtain ⟨rfl, ⟨orr, art, oo, hbf⟩, hC1⟩ := hp
          have hC := hC.trans hC1
          rw [(nv_lo (f := f) (n := n) (i := i) (t := 99) (by omega) (by omega)).1] at orr
          have hin := (pnS_b (f := f) (t := 99) hin).2
          refine lv_goto (tgt := 52) hx hb dX7_readValues_48 (by decide) ?_
          refine r_ist X hL art lta 0 (nI_cl (by omega) rfl) (nI_nn (by omega) rfl) (by omega) dX7_readValues_52 (fun H locs hL h1 h2 => ?_)
          have art : Ar g ta 0 4 (upd tf 0 (nvI f n 0 99 i)) H := h1
          have orr := orr.on h2 n1
          have oo := oo.on h2 (Ne.symm n3)
          have hbf := hbf.keep (h2.chg (P := fun q => q = rd ∨ q = ta) (Or.inr rfl)) hdj
          have hC := hC.trans (h2.chg (Or.inr rfl))
          refine lv_aload_n hx hb dX7_readValues_53 rfl (lv_at hl 2 rfl) ?_
          refine r_get (C := RX7) (T := TX7) (N := 5) (ci := 6) X in_X7 rfl 3 (Nat.le_of_ble_eq_true rfl) q911 (fun _ h => h) orr rfl dX7_readValues_54 ?_
          refine lv_iload_n hx hb dX7_readValues_57 rfl (lv_at hl 1 rfl) ?_
          refine r_ild X art 0 (nI_cl (by omega) rfl) (nI_nn (by omega) rfl) (by omega) dX7_readValues_58 ?_
          rw [show (upd tf 0 (nvI f n 0 99 i)) 0 = (nvI f n 0 99 i) from (upd_s _ _ _)]
          refine lv_iconst (v := (-1)) hx hb dX7_readValues_59 (by decide) ?_
          refine lv_icmp_eq (tgt := 67) hx hb dX7_readValues_60 (by decide) (fun c_60 => ?_) (fun c_60 => ?_)
          ·
            have z0 := nl_f (by omega) (by omega) c_60
            refine lv_iconst (v := nI 0) hx hb dX7_readValues_67 (by decide) ?_
            refine lv_istore_n (lv' := [(1, .int _), (2, .int _), (0, .ref _)]) hx hb dX7_readValues_68 rfl hl (by decide) rfl (fun ls hl => ?_)
            refine lv_iinc (v := nI (1)) (lv' := [(2, .int _), (1, .int _), (0, .ref _)]) hx hb dX7_readValues_69 hl (k := 1) rfl (nI_iinc _ 1 rfl) (by decide) rfl (fun ls hl => ?_)
            refine lv_goto (tgt := 4) hx hb dX7_readValues_72 (by decide) ?_
            refine lv_iload_n hx hb dX7_readValues_4 rfl (lv_at hl 0 rfl) ?_
            refine lv_iconst (v := nI 4) hx hb dX7_readValues_5 (by decide) ?_
            refine n_icmp_ge (tgt := 75) X dX7_readValues_6 (by decide) (by omega) (by omega) (fun c_6 => ?_) (fun c_6 => ?_)
            ·
              exact absurd c_6 (by decide)
            ·
              refine lv_iload_n hx hb dX7_readValues_9 rfl (lv_at hl 1 rfl) ?_
              refine n_ifeq (tgt := 75) X dX7_readValues_10 (by decide) (by omega) (fun c_10 => ?_) (fun c_10 => ?_)
              ·
                refine lv_iload_n hx hb dX7_readValues_75 rfl (lv_at hl 1 rfl) ?_
                have hpa : paS f n i = (false, (pnS f n i 99).2) := by simp only [paS, thB, z0, if_true, Bool.false_eq_true, if_false]
                exact r_iret X hL rfl rfl dX7_readValues_76 (by omega) (by omega) ⟨v_f (by rw [hpa]), ⟨_, _, by rw [hpa]; exact ⟨orr, art, oo, hbf⟩, fun h => absurd (show false = true from by rw [hpa] at h; exact h) (by decide)⟩, hC⟩
              ·
                exact absurd c_10 (by decide)
          ·
            obtain ⟨z0, zv0⟩ := nl_t (by omega) (by omega) c_60
            refine lv_iconst (v := nI 1) hx hb dX7_readValues_63 (by decide) ?_
            refine lv_goto (tgt := 68) hx hb dX7_readValues_64 (by decide) ?_
            refine lv_istore_n (lv' := [(1, .int _), (2, .int _), (0, .ref _)]) hx hb dX7_readValues_68 rfl hl (by decide) rfl (fun ls hl => ?_)
            refine lv_iinc (v := nI (1)) (lv' := [(2, .int _), (1, .int _), (0, .ref _)]) hx hb dX7_readValues_69 hl (k := 1) rfl (nI_iinc _ 1 rfl) (by decide) rfl (fun ls hl => ?_)
            refine lv_goto (tgt := 4) hx hb dX7_readValues_72 (by decide) ?_
            refine lv_iload_n hx hb dX7_readValues_4 rfl (lv_at hl 0 rfl) ?_
            refine lv_iconst (v := nI 4) hx hb dX7_readValues_5 (by decide) ?_
            refine n_icmp_ge (tgt := 75) X dX7_readValues_6 (by decide) (by omega) (by omega) (fun c_6 => ?_) (fun c_6 => ?_)
            ·
              exact absurd c_6 (by decide)
            ·
              refine lv_iload_n hx hb dX7_readValues_9 rfl (lv_at hl 1 rfl) ?_
              refine n_ifeq (tgt := 75) X dX7_readValues_10 (by decide) (by omega) (fun c_10 => ?_) (fun c_10 => ?_)
              ·
                exact absurd c_10 (by decide)
              ·
                refine lv_iload_n hx hb dX7_readValues_13 rfl (lv_at hl 0 rfl) ?_
                refine n_ifeq (tgt := 26) X dX7_readValues_14 (by decide) (by omega) (fun c_14 => ?_) (fun c_14 => ?_)
                ·
                  exact absurd c_14 (by decide)
                ·
                  refine lv_aload_n hx hb dX7_readValues_17 rfl (lv_at hl 2 rfl) ?_
                  refine lv_bipush (v := nI 44) hx hb dX7_readValues_18 (by decide) ?_
                  refine Ct.callV (ct_X7_isNext l g PB f n ((pnS f n i 99).2) w sd (upd tf 0 (nvI f n 0 99 i)) rd ta o st dq sl bf hs 44 hF hin (by omega) (by omega)) X hL hl vb_X7_isNext q955 (orr.recv hKV rfl) rfl rfl (Nat.le_of_ble_eq_true rfl) dX7_readValues_20 ⟨Nat.le_of_ble_eq_true rfl, Nat.le_of_ble_eq_true rfl⟩ (by omega) (by omega) ⟨orr, art, oo, hbf⟩ (fun r H locs hL hp => ?_)
                  obtain ⟨rfl, ⟨orr, art, oo, hbf⟩, hC1⟩ := hp
                  have hC := hC.trans hC1
                  have hin := (pS_b (f := f) (a := 44) (b := 44) hin).2
                  refine b_ifeq (tgt := 30) X dX7_readValues_23 (by decide) (fun c_23 => ?_) (fun c_23 => ?_)
                  ·
                    have y1 := c_23
                    rw [pS_f y1] at orr hin
                    refine lv_iconst (v := nI 0) hx hb dX7_readValues_30 (by decide) ?_
                    refine lv_istore_n (lv' := [(1, .int _), (2, .int _), (0, .ref _)]) hx hb dX7_readValues_31 rfl hl (by decide) rfl (fun ls hl => ?_)
                    refine lv_aload_n hx hb dX7_readValues_32 rfl (lv_at hl 2 rfl) ?_
                    refine r_get (C := RX7) (T := TX7) (N := 5) (ci := 6) X in_X7 rfl 3 (Nat.le_of_ble_eq_true rfl) q911 (fun _ h => h) orr rfl dX7_readValues_33 ?_
                    refine lv_iload_n hx hb dX7_readValues_36 rfl (lv_at hl 1 rfl) ?_
                    refine lv_iload_n hx hb dX7_readValues_37 rfl (lv_at hl 0 rfl) ?_
                    refine n_ifeq (tgt := 51) X dX7_readValues_38 (by decide) (by omega) (fun c_38 => ?_) (fun c_38 => ?_)
                    ·
                      refine lv_iconst (v := (-1)) hx hb dX7_readValues_51 (by decide) ?_
                      refine r_ist X hL art lta 1 (nI_cl (by omega) rfl) (nI_nn (by omega) rfl) (by omega) dX7_readValues_52 (fun H locs hL h1 h2 => ?_)
                      have art : Ar g ta 0 4 (upd (upd tf 0 (nvI f n 0 99 i)) 1 (-1)) H := h1
                      have orr := orr.on h2 n1
                      have oo := oo.on h2 (Ne.symm n3)
                      have hbf := hbf.keep (h2.chg (P := fun q => q = rd ∨ q = ta) (Or.inr rfl)) hdj
                      have hC := hC.trans (h2.chg (Or.inr rfl))
                      refine lv_aload_n hx hb dX7_readValues_53 rfl (lv_at hl 2 rfl) ?_
                      refine r_get (C := RX7) (T := TX7) (N := 5) (ci := 6) X in_X7 rfl 3 (Nat.le_of_ble_eq_true rfl) q911 (fun _ h => h) orr rfl dX7_readValues_54 ?_
                      refine lv_iload_n hx hb dX7_readValues_57 rfl (lv_at hl 1 rfl) ?_
                      refine r_ild X art 1 (nI_cl (by omega) rfl) (nI_nn (by omega) rfl) (by omega) dX7_readValues_58 ?_
                      rw [show (upd (upd tf 0 (nvI f n 0 99 i)) 1 (-1)) 1 = (-1) from (upd_s _ _ _)]
                      refine lv_iconst (v := (-1)) hx hb dX7_readValues_59 (by decide) ?_
                      refine lv_icmp_eq (tgt := 67) hx hb dX7_readValues_60 (by decide) (fun c_60 => ?_) (fun c_60 => ?_)
                      ·
                        refine lv_iconst (v := nI 0) hx hb dX7_readValues_67 (by decide) ?_
                        refine lv_istore_n (lv' := [(1, .int _), (2, .int _), (0, .ref _)]) hx hb dX7_readValues_68 rfl hl (by decide) rfl (fun ls hl => ?_)
                        refine lv_iinc (v := nI (2)) (lv' := [(2, .int _), (1, .int _), (0, .ref _)]) hx hb dX7_readValues_69 hl (k := 1) rfl (nI_iinc _ 1 rfl) (by decide) rfl (fun ls hl => ?_)
                        refine lv_goto (tgt := 4) hx hb dX7_readValues_72 (by decide) ?_
                        refine lv_iload_n hx hb dX7_readValues_4 rfl (lv_at hl 0 rfl) ?_
                        refine lv_iconst (v := nI 4) hx hb dX7_readValues_5 (by decide) ?_
                        refine n_icmp_ge (tgt := 75) X dX7_readValues_6 (by decide) (by omega) (by omega) (fun c_6 => ?_) (fun c_6 => ?_)
                        ·
                          exact absurd c_6 (by decide)
                        ·
                          refine lv_iload_n hx hb dX7_readValues_9 rfl (lv_at hl 1 rfl) ?_
                          refine n_ifeq (tgt := 75) X dX7_readValues_10 (by decide) (by omega) (fun c_10 => ?_) (fun c_10 => ?_)
                          ·
                            refine lv_iload_n hx hb dX7_readValues_75 rfl (lv_at hl 1 rfl) ?_
                            have hpa : paS f n i = (false, (pnS f n i 99).2) := by simp only [paS, thB, z0, y1, pS_f y1, if_true, Bool.false_eq_true, if_false]
                            exact r_iret X hL rfl rfl dX7_readValues_76 (by omega) (by omega) ⟨v_f (by rw [hpa]), ⟨_, _, by rw [hpa]; exact ⟨orr, art, oo, hbf⟩, fun h => absurd (show false = true from by rw [hpa] at h; exact h) (by decide)⟩, hC⟩
                          ·
                            exact absurd c_10 (by decide)
                      ·
                        exact absurd rfl c_60
                    ·
                      exact absurd c_38 (by decide)
                  ·
                    have y1 := c_23
                    rw [(pS_t y1).1] at orr hin
                    refine lv_iconst (v := nI 1) hx hb dX7_readValues_26 (by decide) ?_
                    refine lv_goto (tgt := 31) hx hb dX7_readValues_27 (by decide) ?_
                    refine lv_istore_n (lv' := [(1, .int _), (2, .int _), (0, .ref _)]) hx hb dX7_readValues_31 rfl hl (by decide) rfl (fun ls hl => ?_)
                    refine lv_aload_n hx hb dX7_readValues_32 rfl (lv_at hl 2 rfl) ?_
                    refine r_get (C := RX7) (T := TX7) (N := 5) (ci := 6) X in_X7 rfl 3 (Nat.le_of_ble_eq_true rfl) q911 (fun _ h => h) orr rfl dX7_readValues_33 ?_
                    refine lv_iload_n hx hb dX7_readValues_36 rfl (lv_at hl 1 rfl) ?_
                    refine lv_iload_n hx hb dX7_readValues_37 rfl (lv_at hl 0 rfl) ?_
                    refine n_ifeq (tgt := 51) X dX7_readValues_38 (by decide) (by omega) (fun c_38 => ?_) (fun c_38 => ?_)
                    ·
                      exact absurd c_38 (by decide)
                    ·
                      refine lv_aload_n hx hb dX7_readValues_41 rfl (lv_at hl 2 rfl) ?_
                      refine lv_iconst (v := nI 0) hx hb dX7_readValues_42 (by decide) ?_
                      refine lv_bipush (v := nI 99) hx hb dX7_readValues_43 (by decide) ?_
                      refine Ct.callV (ct_X7_number l g PB f n ((pnS f n i 99).2 + 1) w sd (upd tf 0 (nvI f n 0 99 i)) rd ta o st dq sl bf hs 0 99 hF hin (by omega) (by omega)) X hL hl vb_X7_number q959 (orr.recv hKV rfl) rfl rfl (Nat.le_of_ble_eq_true rfl) dX7_readValues_45 ⟨Nat.le_of_ble_eq_true rfl, Nat.le_of_ble_eq_true rfl⟩ (by omega) (by omega) ⟨orr, art, oo, hbf⟩ (fun r H locs hL hp => ?_)
                      obtain ⟨rfl, ⟨orr, art, oo, hbf⟩, hC1⟩ := hp
                      have hC := hC.trans hC1
                      rw [(nv_lo (f := f) (n := n) (i := (pnS f n i 99).2 + 1) (t := 99) (by omega) (by omega)).1] at orr
                      have hin := (pnS_b (f := f) (t := 99) hin).2
                      refine lv_goto (tgt := 52) hx hb dX7_readValues_48 (by decide) ?_
                      refine r_ist X hL art lta 1 (nI_cl (by omega) rfl) (nI_nn (by omega) rfl) (by omega) dX7_readValues_52 (fun H locs hL h1 h2 => ?_)
                      have art : Ar g ta 0 4 (upd (upd tf 0 (nvI f n 0 99 i)) 1 (nvI f n 0 99 ((pnS f n i 99).2 + 1))) H := h1
                      have orr := orr.on h2 n1
                      have oo := oo.on h2 (Ne.symm n3)
                      have hbf := hbf.keep (h2.chg (P := fun q => q = rd ∨ q = ta) (Or.inr rfl)) hdj
                      have hC := hC.trans (h2.chg (Or.inr rfl))
                      refine lv_aload_n hx hb dX7_readValues_53 rfl (lv_at hl 2 rfl) ?_
                      refine r_get (C := RX7) (T := TX7) (N := 5) (ci := 6) X in_X7 rfl 3 (Nat.le_of_ble_eq_true rfl) q911 (fun _ h => h) orr rfl dX7_readValues_54 ?_
                      refine lv_iload_n hx hb dX7_readValues_57 rfl (lv_at hl 1 rfl) ?_
                      refine r_ild X art 1 (nI_cl (by omega) rfl) (nI_nn (by omega) rfl) (by omega) dX7_readValues_58 ?_
                      rw [show (upd (upd tf 0 (nvI f n 0 99 i)) 1 (nvI f n 0 99 ((pnS f n i 99).2 + 1))) 1 = (nvI f n 0 99 ((pnS f n i 99).2 + 1)) from (upd_s _ _ _)]
                      refine lv_iconst (v := (-1)) hx hb dX7_readValues_59 (by decide) ?_
                      refine lv_icmp_eq (tgt := 67) hx hb dX7_readValues_60 (by decide) (fun c_60 => ?_) (fun c_60 => ?_)
                      ·
                        have z1 := nl_f (by omega) (by omega) c_60
                        refine lv_iconst (v := nI 0) hx hb dX7_readValues_67 (by decide) ?_
                        refine lv_istore_n (lv' := [(1, .int _), (2, .int _), (0, .ref _)]) hx hb dX7_readValues_68 rfl hl (by decide) rfl (fun ls hl => ?_)
                        refine lv_iinc (v := nI (2)) (lv' := [(2, .int _), (1, .int _), (0, .ref _)]) hx hb dX7_readValues_69 hl (k := 1) rfl (nI_iinc _ 1 rfl) (by decide) rfl (fun ls hl => ?_)
                        refine lv_goto (tgt := 4) hx hb dX7_readValues_72 (by decide) ?_
                        refine lv_iload_n hx hb dX7_readValues_4 rfl (lv_at hl 0 rfl) ?_
                        refine lv_iconst (v := nI 4) hx hb dX7_readValues_5 (by decide) ?_
                        refine n_icmp_ge (tgt := 75) X dX7_readValues_6 (by decide) (by omega) (by omega) (fun c_6 => ?_) (fun c_6 => ?_)
                        ·
                          exact absurd c_6 (by decide)
                        ·
                          refine lv_iload_n hx hb dX7_readValues_9 rfl (lv_at hl 1 rfl) ?_
                          refine n_ifeq (tgt := 75) X dX7_readValues_10 (by decide) (by omega) (fun c_10 => ?_) (fun c_10 => ?_)
                          ·
                            refine lv_iload_n hx hb dX7_readValues_75 rfl (lv_at hl 1 rfl) ?_
                            have hpa : paS f n i = (false, (pnS f n ((pnS f n i 99).2 + 1) 99).2) := by simp only [paS, thB, z0, y1, (pS_t y1).1, z1, if_true, Bool.false_eq_true, if_false]
                            exact r_iret X hL rfl rfl dX7_readValues_76 (by omega) (by omega) ⟨v_f (by rw [hpa]), ⟨_, _, by rw [hpa]; exact ⟨orr, art, oo, hbf⟩, fun h => absurd (show false = true from by rw [hpa] at h; exact h) (by decide)⟩, hC⟩
                          ·
                            exact absurd c_10 (by decide)
                      ·
                        obtain ⟨z1, zv1⟩ := nl_t (by omega) (by omega) c_60
                        refine lv_iconst (v := nI 1) hx hb dX7_readValues_63 (by decide) ?_
                        refine lv_goto (tgt := 68) hx hb dX7_readValues_64 (by decide) ?_
                        refine lv_istore_n (lv' := [(1, .int _), (2, .int _), (0, .ref _)]) hx hb dX7_readValues_68 rfl hl (by decide) rfl (fun ls hl => ?_)
                        refine lv_iinc (v := nI (2)) (lv' := [(2, .int _), (1, .int _), (0, .ref _)]) hx hb dX7_readValues_69 hl (k := 1) rfl (nI_iinc _ 1 rfl) (by decide) rfl (fun ls hl => ?_)
                        refine lv_goto (tgt := 4) hx hb dX7_readValues_72 (by decide) ?_
                        refine lv_iload_n hx hb dX7_readValues_4 rfl (lv_at hl 0 rfl) ?_
                        refine lv_iconst (v := nI 4) hx hb dX7_readValues_5 (by decide) ?_
                        refine n_icmp_ge (tgt := 75) X dX7_readValues_6 (by decide) (by omega) (by omega) (fun c_6 => ?_) (fun c_6 => ?_)
                        ·
                          exact absurd c_6 (by decide)
                        ·
                          refine lv_iload_n hx hb dX7_readValues_9 rfl (lv_at hl 1 rfl) ?_
                          refine n_ifeq (tgt := 75) X dX7_readValues_10 (by decide) (by omega) (fun c_10 => ?_) (fun c_10 => ?_)
                          ·
                            exact absurd c_10 (by decide)
                          ·
                            refine lv_iload_n hx hb dX7_readValues_13 rfl (lv_at hl 0 rfl) ?_
                            refine n_ifeq (tgt := 26) X dX7_readValues_14 (by decide) (by omega) (fun c_14 => ?_) (fun c_14 => ?_)
                            ·
                              exact absurd c_14 (by decide)
                            ·
                              refine lv_aload_n hx hb dX7_readValues_17 rfl (lv_at hl 2 rfl) ?_
                              refine lv_bipush (v := nI 44) hx hb dX7_readValues_18 (by decide) ?_
                              refine Ct.callV (ct_X7_isNext l g PB f n ((pnS f n ((pnS f n i 99).2 + 1) 99).2) w sd (upd (upd tf 0 (nvI f n 0 99 i)) 1 (nvI f n 0 99 ((pnS f n i 99).2 + 1))) rd ta o st dq sl bf hs 44 hF hin (by omega) (by omega)) X hL hl vb_X7_isNext q955 (orr.recv hKV rfl) rfl rfl (Nat.le_of_ble_eq_true rfl) dX7_readValues_20 ⟨Nat.le_of_ble_eq_true rfl, Nat.le_of_ble_eq_true rfl⟩ (by omega) (by omega) ⟨orr, art, oo, hbf⟩ (fun r H locs hL hp => ?_)
                              obtain ⟨rfl, ⟨orr, art, oo, hbf⟩, hC1⟩ := hp
                              have hC := hC.trans hC1
                              have hin := (pS_b (f := f) (a := 44) (b := 44) hin).2
                              refine b_ifeq (tgt := 30) X dX7_readValues_23 (by decide) (fun c_23 => ?_) (fun c_23 => ?_)
                              ·
                                have y2 := c_23
                                rw [pS_f y2] at orr hin
                                refine lv_iconst (v := nI 0) hx hb dX7_readValues_30 (by decide) ?_
                                refine lv_istore_n (lv' := [(1, .int _), (2, .int _), (0, .ref _)]) hx hb dX7_readValues_31 rfl hl (by decide) rfl (fun ls hl => ?_)
                                refine lv_aload_n hx hb dX7_readValues_32 rfl (lv_at hl 2 rfl) ?_
                                refine r_get (C := RX7) (T := TX7) (N := 5) (ci := 6) X in_X7 rfl 3 (Nat.le_of_ble_eq_true rfl) q911 (fun _ h => h) orr rfl dX7_readValues_33 ?_
                                refine lv_iload_n hx hb dX7_readValues_36 rfl (lv_at hl 1 rfl) ?_
                                refine lv_iload_n hx hb dX7_readValues_37 rfl (lv_at hl 0 rfl) ?_
                                refine n_ifeq (tgt := 51) X dX7_readValues_38 (by decide) (by omega) (fun c_38 => ?_) (fun c_38 => ?_)
                                ·
                                  refine lv_iconst (v := (-1)) hx hb dX7_readValues_51 (by decide) ?_
                                  refine r_ist X hL art lta 2 (nI_cl (by omega) rfl) (nI_nn (by omega) rfl) (by omega) dX7_readValues_52 (fun H locs hL h1 h2 => ?_)
                                  have art : Ar g ta 0 4 (upd (upd (upd tf 0 (nvI f n 0 99 i)) 1 (nvI f n 0 99 ((pnS f n i 99).2 + 1))) 2 (-1)) H := h1
                                  have orr := orr.on h2 n1
                                  have oo := oo.on h2 (Ne.symm n3)
                                  have hbf := hbf.keep (h2.chg (P := fun q => q = rd ∨ q = ta) (Or.inr rfl)) hdj
                                  have hC := hC.trans (h2.chg (Or.inr rfl))
                                  refine lv_aload_n hx hb dX7_readValues_53 rfl (lv_at hl 2 rfl) ?_
                                  refine r_get (C := RX7) (T := TX7) (N := 5) (ci := 6) X in_X7 rfl 3 (Nat.le_of_ble_eq_true rfl) q911 (fun _ h => h) orr rfl dX7_readValues_54 ?_
                                  refine lv_iload_n hx hb dX7_readValues_57 rfl (lv_at hl 1 rfl) ?_
                                  refine r_ild X art 2 (nI_cl (by omega) rfl) (nI_nn (by omega) rfl) (by omega) dX7_readValues_58 ?_
                                  rw [show (upd (upd (upd tf 0 (nvI f n 0 99 i)) 1 (nvI f n 0 99 ((pnS f n i 99).2 + 1))) 2 (-1)) 2 = (-1) from (upd_s _ _ _)]
                                  refine lv_iconst (v := (-1)) hx hb dX7_readValues_59 (by decide) ?_
                                  refine lv_icmp_eq (tgt := 67) hx hb dX7_readValues_60 (by decide) (fun c_60 => ?_) (fun c_60 => ?_)
                                  ·
                                    refine lv_iconst (v := nI 0) hx hb dX7_readValues_67 (by decide) ?_
                                    refine lv_istore_n (lv' := [(1, .int _), (2, .int _), (0, .ref _)]) hx hb dX7_readValues_68 rfl hl (by decide) rfl (fun ls hl => ?_)
                                    refine lv_iinc (v := nI (3)) (lv' := [(2, .int _), (1, .int _), (0, .ref _)]) hx hb dX7_readValues_69 hl (k := 1) rfl (nI_iinc _ 1 rfl) (by decide) rfl (fun ls hl => ?_)
                                    refine lv_goto (tgt := 4) hx hb dX7_readValues_72 (by decide) ?_
                                    refine lv_iload_n hx hb dX7_readValues_4 rfl (lv_at hl 0 rfl) ?_
                                    refine lv_iconst (v := nI 4) hx hb dX7_readValues_5 (by decide) ?_
                                    refine n_icmp_ge (tgt := 75) X dX7_readValues_6 (by decide) (by omega) (by omega) (fun c_6 => ?_) (fun c_6 => ?_)
                                    ·
                                      exact absurd c_6 (by decide)
                                    ·
                                      refine lv_iload_n hx hb dX7_readValues_9 rfl (lv_at hl 1 rfl) ?_
                                      refine n_ifeq (tgt := 75) X dX7_readValues_10 (by decide) (by omega) (fun c_10 => ?_) (fun c_10 => ?_)
                                      ·
                                        refine lv_iload_n hx hb dX7_readValues_75 rfl (lv_at hl 1 rfl) ?_
                                        have hpa : paS f n i = (false, (pnS f n ((pnS f n i 99).2 + 1) 99).2) := by simp only [paS, thB, z0, y1, (pS_t y1).1, z1, y2, pS_f y2, if_true, Bool.false_eq_true, if_false]
                                        exact r_iret X hL rfl rfl dX7_readValues_76 (by omega) (by omega) ⟨v_f (by rw [hpa]), ⟨_, _, by rw [hpa]; exact ⟨orr, art, oo, hbf⟩, fun h => absurd (show false = true from by rw [hpa] at h; exact h) (by decide)⟩, hC⟩
                                      ·
                                        exact absurd c_10 (by decide)
                                  ·
                                    exact absurd rfl c_60
                                ·
                                  exact absurd c_38 (by decide)
                              ·
                                have y2 := c_23
                                rw [(pS_t y2).1] at orr hin
                                refine lv_iconst (v := nI 1) hx hb dX7_readValues_26 (by decide) ?_
                                refine lv_goto (tgt := 31) hx hb dX7_readValues_27 (by decide) ?_
                                refine lv_istore_n (lv' := [(1, .int _), (2, .int _), (0, .ref _)]) hx hb dX7_readValues_31 rfl hl (by decide) rfl (fun ls hl => ?_)
                                refine lv_aload_n hx hb dX7_readValues_32 rfl (lv_at hl 2 rfl) ?_
                                refine r_get (C := RX7) (T := TX7) (N := 5) (ci := 6) X in_X7 rfl 3 (Nat.le_of_ble_eq_true rfl) q911 (fun _ h => h) orr rfl dX7_readValues_33 ?_
                                refine lv_iload_n hx hb dX7_readValues_36 rfl (lv_at hl 1 rfl) ?_
                                refine lv_iload_n hx hb dX7_readValues_37 rfl (lv_at hl 0 rfl) ?_
                                refine n_ifeq (tgt := 51) X dX7_readValues_38 (by decide) (by omega) (fun c_38 => ?_) (fun c_38 => ?_)
                                ·
                                  exact absurd c_38 (by decide)
                                ·
                                  refine lv_aload_n hx hb dX7_readValues_41 rfl (lv_at hl 2 rfl) ?_
                                  refine lv_iconst (v := nI 0) hx hb dX7_readValues_42 (by decide) ?_
                                  refine lv_bipush (v := nI 99) hx hb dX7_readValues_43 (by decide) ?_
                                  refine Ct.callV (ct_X7_number l g PB f n ((pnS f n ((pnS f n i 99).2 + 1) 99).2 + 1) w sd (upd (upd tf 0 (nvI f n 0 99 i)) 1 (nvI f n 0 99 ((pnS f n i 99).2 + 1))) rd ta o st dq sl bf hs 0 99 hF hin (by omega) (by omega)) X hL hl vb_X7_number q959 (orr.recv hKV rfl) rfl rfl (Nat.le_of_ble_eq_true rfl) dX7_readValues_45 ⟨Nat.le_of_ble_eq_true rfl, Nat.le_of_ble_eq_true rfl⟩ (by omega) (by omega) ⟨orr, art, oo, hbf⟩ (fun r H locs hL hp => ?_)
                                  obtain ⟨rfl, ⟨orr, art, oo, hbf⟩, hC1⟩ := hp
                                  have hC := hC.trans hC1
                                  rw [(nv_lo (f := f) (n := n) (i := (pnS f n ((pnS f n i 99).2 + 1) 99).2 + 1) (t := 99) (by omega) (by omega)).1] at orr
                                  have hin := (pnS_b (f := f) (t := 99) hin).2
                                  refine lv_goto (tgt := 52) hx hb dX7_readValues_48 (by decide) ?_
                                  refine r_ist X hL art lta 2 (nI_cl (by omega) rfl) (nI_nn (by omega) rfl) (by omega) dX7_readValues_52 (fun H locs hL h1 h2 => ?_)
                                  have art : Ar g ta 0 4 (upd (upd (upd tf 0 (nvI f n 0 99 i)) 1 (nvI f n 0 99 ((pnS f n i 99).2 + 1))) 2 (nvI f n 0 99 ((pnS f n ((pnS f n i 99).2 + 1) 99).2 + 1))) H := h1
                                  have orr := orr.on h2 n1
                                  have oo := oo.on h2 (Ne.symm n3)
                                  have hbf := hbf.keep (h2.chg (P := fun q => q = rd ∨ q = ta) (Or.inr rfl)) hdj
                                  have hC := hC.trans (h2.chg (Or.inr rfl))
                                  refine lv_aload_n hx hb dX7_readValues_53 rfl (lv_at hl 2 rfl) ?_
                                  refine r_get (C := RX7) (T := TX7) (N := 5) (ci := 6) X in_X7 rfl 3 (Nat.le_of_ble_eq_true rfl) q911 (fun _ h => h) orr rfl dX7_readValues_54 ?_
                                  refine lv_iload_n hx hb dX7_readValues_57 rfl (lv_at hl 1 rfl) ?_
                                  refine r_ild X art 2 (nI_cl (by omega) rfl) (nI_nn (by omega) rfl) (by omega) dX7_readValues_58 ?_
                                  rw [show (upd (upd (upd tf 0 (nvI f n 0 99 i)) 1 (nvI f n 0 99 ((pnS f n i 99).2 + 1))) 2 (nvI f n 0 99 ((pnS f n ((pnS f n i 99).2 + 1) 99).2 + 1))) 2 = (nvI f n 0 99 ((pnS f n ((pnS f n i 99).2 + 1) 99).2 + 1)) from (upd_s _ _ _)]
                                  refine lv_iconst (v := (-1)) hx hb dX7_readValues_59 (by decide) ?_
                                  refine lv_icmp_eq (tgt := 67) hx hb dX7_readValues_60 (by decide) (fun c_60 => ?_) (fun c_60 => ?_)
                                  ·
                                    have z2 := nl_f (by omega) (by omega) c_60
                                    refine lv_iconst (v := nI 0) hx hb dX7_readValues_67 (by decide) ?_
                                    refine lv_istore_n (lv' := [(1, .int _), (2, .int _), (0, .ref _)]) hx hb dX7_readValues_68 rfl hl (by decide) rfl (fun ls hl => ?_)
                                    refine lv_iinc (v := nI (3)) (lv' := [(2, .int _), (1, .int _), (0, .ref _)]) hx hb dX7_readValues_69 hl (k := 1) rfl (nI_iinc _ 1 rfl) (by decide) rfl (fun ls hl => ?_)
                                    refine lv_goto (tgt := 4) hx hb dX7_readValues_72 (by decide) ?_
                                    refine lv_iload_n hx hb dX7_readValues_4 rfl (lv_at hl 0 rfl) ?_
                                    refine lv_iconst (v := nI 4) hx hb dX7_readValues_5 (by decide) ?_
                                    refine n_icmp_ge (tgt := 75) X dX7_readValues_6 (by decide) (by omega) (by omega) (fun c_6 => ?_) (fun c_6 => ?_)
                                    ·
                                      exact absurd c_6 (by decide)
                                    ·
                                      refine lv_iload_n hx hb dX7_readValues_9 rfl (lv_at hl 1 rfl) ?_
                                      refine n_ifeq (tgt := 75) X dX7_readValues_10 (by decide) (by omega) (fun c_10 => ?_) (fun c_10 => ?_)
                                      ·
                                        refine lv_iload_n hx hb dX7_readValues_75 rfl (lv_at hl 1 rfl) ?_
                                        have hpa : paS f n i = (false, (pnS f n ((pnS f n ((pnS f n i 99).2 + 1) 99).2 + 1) 99).2) := by simp only [paS, thB, z0, y1, (pS_t y1).1, z1, y2, (pS_t y2).1, z2, if_true, Bool.false_eq_true, if_false]
                                        exact r_iret X hL rfl rfl dX7_readValues_76 (by omega) (by omega) ⟨v_f (by rw [hpa]), ⟨_, _, by rw [hpa]; exact ⟨orr, art, oo, hbf⟩, fun h => absurd (show false = true from by rw [hpa] at h; exact h) (by decide)⟩, hC⟩
                                      ·
                                        exact absurd c_10 (by decide)
                                  ·
                                    obtain ⟨z2, zv2⟩ := nl_t (by omega) (by omega) c_60
                                    refine lv_iconst (v := nI 1) hx hb dX7_readValues_63 (by decide) ?_
                                    refine lv_goto (tgt := 68) hx hb dX7_readValues_64 (by decide) ?_
                                    refine lv_istore_n (lv' := [(1, .int _), (2, .int _), (0, .ref _)]) hx hb dX7_readValues_68 rfl hl (by decide) rfl (fun ls hl => ?_)
                                    refine lv_iinc (v := nI (3)) (lv' := [(2, .int _), (1, .int _), (0, .ref _)]) hx hb dX7_readValues_69 hl (k := 1) rfl (nI_iinc _ 1 rfl) (by decide) rfl (fun ls hl => ?_)
                                    refine lv_goto (tgt := 4) hx hb dX7_readValues_72 (by decide) ?_
                                    refine lv_iload_n hx hb dX7_readValues_4 rfl (lv_at hl 0 rfl) ?_
                                    refine lv_iconst (v := nI 4) hx hb dX7_readValues_5 (by decide) ?_
                                    refine n_icmp_ge (tgt := 75) X dX7_readValues_6 (by decide) (by omega) (by omega) (fun c_6 => ?_) (fun c_6 => ?_)
                                    ·
                                      exact absurd c_6 (by decide)
                                    ·
                                      refine lv_iload_n hx hb dX7_readValues_9 rfl (lv_at hl 1 rfl) ?_
                                      refine n_ifeq (tgt := 75) X dX7_readValues_10 (by decide) (by omega) (fun c_10 => ?_) (fun c_10 => ?_)
                                      ·
                                        exact absurd c_10 (by decide)
                                      ·
                                        refine lv_iload_n hx hb dX7_readValues_13 rfl (lv_at hl 0 rfl) ?_
                                        refine n_ifeq (tgt := 26) X dX7_readValues_14 (by decide) (by omega) (fun c_14 => ?_) (fun c_14 => ?_)
                                        ·
                                          exact absurd c_14 (by decide)
                                        ·
                                          refine lv_aload_n hx hb dX7_readValues_17 rfl (lv_at hl 2 rfl) ?_
                                          refine lv_bipush (v := nI 44) hx hb dX7_readValues_18 (by decide) ?_
                                          refine Ct.callV (ct_X7_isNext l g PB f n ((pnS f n ((pnS f n ((pnS f n i 99).2 + 1) 99).2 + 1) 99).2) w sd (upd (upd (upd tf 0 (nvI f n 0 99 i)) 1 (nvI f n 0 99 ((pnS f n i 99).2 + 1))) 2 (nvI f n 0 99 ((pnS f n ((pnS f n i 99).2 + 1) 99).2 + 1))) rd ta o st dq sl bf hs 44 hF hin (by omega) (by omega)) X hL hl vb_X7_isNext q955 (orr.recv hKV rfl) rfl rfl (Nat.le_of_ble_eq_true rfl) dX7_readValues_20 ⟨Nat.le_of_ble_eq_true rfl, Nat.le_of_ble_eq_true rfl⟩ (by omega) (by omega) ⟨orr, art, oo, hbf⟩ (fun r H locs hL hp => ?_)
                                          obtain ⟨rfl, ⟨orr, art, oo, hbf⟩, hC1⟩ := hp
                                          have hC := hC.trans hC1
                                          have hin := (pS_b (f := f) (a := 44) (b := 44) hin).2
                                          refine b_ifeq (tgt := 30) X dX7_readValues_23 (by decide) (fun c_23 => ?_) (fun c_23 => ?_)
                                          ·
                                            have y3 := c_23
                                            rw [pS_f y3] at orr hin
                                            refine lv_iconst (v := nI 0) hx hb dX7_readValues_30 (by decide) ?_
                                            refine lv_istore_n (lv' := [(1, .int _), (2, .int _), (0, .ref _)]) hx hb dX7_readValues_31 rfl hl (by decide) rfl (fun ls hl => ?_)
                                            refine lv_aload_n hx hb dX7_readValues_32 rfl (lv_at hl 2 rfl) ?_
                                            refine r_get (C := RX7) (T := TX7) (N := 5) (ci := 6) X in_X7 rfl 3 (Nat.le_of_ble_eq_true rfl) q911 (fun _ h => h) orr rfl dX7_readValues_33 ?_
                                            refine lv_iload_n hx hb dX7_readValues_36 rfl (lv_at hl 1 rfl) ?_
                                            refine lv_iload_n hx hb dX7_readValues_37 rfl (lv_at hl 0 rfl) ?_
                                            refine n_ifeq (tgt := 51) X dX7_readValues_38 (by decide) (by omega) (fun c_38 => ?_) (fun c_38 => ?_)
                                            ·
                                              refine lv_iconst (v := (-1)) hx hb dX7_readValues_51 (by decide) ?_
                                              refine r_ist X hL art lta 3 (nI_cl (by omega) rfl) (nI_nn (by omega) rfl) (by omega) dX7_readValues_52 (fun H locs hL h1 h2 => ?_)
                                              have art : Ar g ta 0 4 (upd (upd (upd (upd tf 0 (nvI f n 0 99 i)) 1 (nvI f n 0 99 ((pnS f n i 99).2 + 1))) 2 (nvI f n 0 99 ((pnS f n ((pnS f n i 99).2 + 1) 99).2 + 1))) 3 (-1)) H := h1
                                              have orr := orr.on h2 n1
                                              have oo := oo.on h2 (Ne.symm n3)
                                              have hbf := hbf.keep (h2.chg (P := fun q => q = rd ∨ q = ta) (Or.inr rfl)) hdj
                                              have hC := hC.trans (h2.chg (Or.inr rfl))
                                              refine lv_aload_n hx hb dX7_readValues_53 rfl (lv_at hl 2 rfl) ?_
                                              refine r_get (C := RX7) (T := TX7) (N := 5) (ci := 6) X in_X7 rfl 3 (Nat.le_of_ble_eq_true rfl) q911 (fun _ h => h) orr rfl dX7_readValues_54 ?_
                                              refine lv_iload_n hx hb dX7_readValues_57 rfl (lv_at hl 1 rfl) ?_
                                              refine r_ild X art 3 (nI_cl (by omega) rfl) (nI_nn (by omega) rfl) (by omega) dX7_readValues_58 ?_
                                              rw [show (upd (upd (upd (upd tf 0 (nvI f n 0 99 i)) 1 (nvI f n 0 99 ((pnS f n i 99).2 + 1))) 2 (nvI f n 0 99 ((pnS f n ((pnS f n i 99).2 + 1) 99).2 + 1))) 3 (-1)) 3 = (-1) from (upd_s _ _ _)]
                                              refine lv_iconst (v := (-1)) hx hb dX7_readValues_59 (by decide) ?_
                                              refine lv_icmp_eq (tgt := 67) hx hb dX7_readValues_60 (by decide) (fun c_60 => ?_) (fun c_60 => ?_)
                                              ·
                                                refine lv_iconst (v := nI 0) hx hb dX7_readValues_67 (by decide) ?_
                                                refine lv_istore_n (lv' := [(1, .int _), (2, .int _), (0, .ref _)]) hx hb dX7_readValues_68 rfl hl (by decide) rfl (fun ls hl => ?_)
                                                refine lv_iinc (v := nI (4)) (lv' := [(2, .int _), (1, .int _), (0, .ref _)]) hx hb dX7_readValues_69 hl (k := 1) rfl (nI_iinc _ 1 rfl) (by decide) rfl (fun ls hl => ?_)
                                                refine lv_goto (tgt := 4) hx hb dX7_readValues_72 (by decide) ?_
                                                refine lv_iload_n hx hb dX7_readValues_4 rfl (lv_at hl 0 rfl) ?_
                                                refine lv_iconst (v := nI 4) hx hb dX7_readValues_5 (by decide) ?_
                                                refine n_icmp_ge (tgt := 75) X dX7_readValues_6 (by decide) (by omega) (by omega) (fun c_6 => ?_) (fun c_6 => ?_)
                                                ·
                                                  refine lv_iload_n hx hb dX7_readValues_75 rfl (lv_at hl 1 rfl) ?_
                                                  have hpa : paS f n i = (false, (pnS f n ((pnS f n ((pnS f n i 99).2 + 1) 99).2 + 1) 99).2) := by simp only [paS, thB, z0, y1, (pS_t y1).1, z1, y2, (pS_t y2).1, z2, y3, pS_f y3, if_true, Bool.false_eq_true, if_false]
                                                  exact r_iret X hL rfl rfl dX7_readValues_76 (by omega) (by omega) ⟨v_f (by rw [hpa]), ⟨_, _, by rw [hpa]; exact ⟨orr, art, oo, hbf⟩, fun h => absurd (show false = true from by rw [hpa] at h; exact h) (by decide)⟩, hC⟩
                                                ·
                                                  exact absurd c_6 (by decide)
                                              ·
                                                exact absurd rfl c_60
                                            ·
                                              exact absurd c_38 (by decide)
                                          ·
                                            have y3 := c_23
                                            rw [(pS_t y3).1] at orr hin
                                            refine lv_iconst (v := nI 1) hx hb dX7_readValues_26 (by decide) ?_
                                            refine lv_goto (tgt := 31) hx hb dX7_readValues_27 (by decide) ?_
                                            refine lv_istore_n (lv' := [(1, .int _), (2, .int _), (0, .ref _)]) hx hb dX7_readValues_31 rfl hl (by decide) rfl (fun ls hl => ?_)
                                            refine lv_aload_n hx hb dX7_readValues_32 rfl (lv_at hl 2 rfl) ?_
                                            refine r_get (C := RX7) (T := TX7) (N := 5) (ci := 6) X in_X7 rfl 3 (Nat.le_of_ble_eq_true rfl) q911 (fun _ h => h) orr rfl dX7_readValues_33 ?_
                                            refine lv_iload_n hx hb dX7_readValues_36 rfl (lv_at hl 1 rfl) ?_
                                            refine lv_iload_n hx hb dX7_readValues_37 rfl (lv_at hl 0 rfl) ?_
                                            refine n_ifeq (tgt := 51) X dX7_readValues_38 (by decide) (by omega) (fun c_38 => ?_) (fun c_38 => ?_)
                                            ·
                                              exact absurd c_38 (by decide)
                                            ·
                                              refine lv_aload_n hx hb dX7_readValues_41 rfl (lv_at hl 2 rfl) ?_
                                              refine lv_iconst (v := nI 0) hx hb dX7_readValues_42 (by decide) ?_
                                              refine lv_bipush (v := nI 99) hx hb dX7_readValues_43 (by decide) ?_
                                              refine Ct.callV (ct_X7_number l g PB f n ((pnS f n ((pnS f n ((pnS f n i 99).2 + 1) 99).2 + 1) 99).2 + 1) w sd (upd (upd (upd tf 0 (nvI f n 0 99 i)) 1 (nvI f n 0 99 ((pnS f n i 99).2 + 1))) 2 (nvI f n 0 99 ((pnS f n ((pnS f n i 99).2 + 1) 99).2 + 1))) rd ta o st dq sl bf hs 0 99 hF hin (by omega) (by omega)) X hL hl vb_X7_number q959 (orr.recv hKV rfl) rfl rfl (Nat.le_of_ble_eq_true rfl) dX7_readValues_45 ⟨Nat.le_of_ble_eq_true rfl, Nat.le_of_ble_eq_true rfl⟩ (by omega) (by omega) ⟨orr, art, oo, hbf⟩ (fun r H locs hL hp => ?_)
                                              obtain ⟨rfl, ⟨orr, art, oo, hbf⟩, hC1⟩ := hp
                                              have hC := hC.trans hC1
                                              rw [(nv_lo (f := f) (n := n) (i := (pnS f n ((pnS f n ((pnS f n i 99).2 + 1) 99).2 + 1) 99).2 + 1) (t := 99) (by omega) (by omega)).1] at orr
                                              have hin := (pnS_b (f := f) (t := 99) hin).2
                                              refine lv_goto (tgt := 52) hx hb dX7_readValues_48 (by decide) ?_
                                              refine r_ist X hL art lta 3 (nI_cl (by omega) rfl) (nI_nn (by omega) rfl) (by omega) dX7_readValues_52 (fun H locs hL h1 h2 => ?_)
                                              have art : Ar g ta 0 4 (upd (upd (upd (upd tf 0 (nvI f n 0 99 i)) 1 (nvI f n 0 99 ((pnS f n i 99).2 + 1))) 2 (nvI f n 0 99 ((pnS f n ((pnS f n i 99).2 + 1) 99).2 + 1))) 3 (nvI f n 0 99 ((pnS f n ((pnS f n ((pnS f n i 99).2 + 1) 99).2 + 1) 99).2 + 1))) H := h1
                                              have orr := orr.on h2 n1
                                              have oo := oo.on h2 (Ne.symm n3)
                                              have hbf := hbf.keep (h2.chg (P := fun q => q = rd ∨ q = ta) (Or.inr rfl)) hdj
                                              have hC := hC.trans (h2.chg (Or.inr rfl))
                                              refine lv_aload_n hx hb dX7_readValues_53 rfl (lv_at hl 2 rfl) ?_
                                              refine r_get (C := RX7) (T := TX7) (N := 5) (ci := 6) X in_X7 rfl 3 (Nat.le_of_ble_eq_true rfl) q911 (fun _ h => h) orr rfl dX7_readValues_54 ?_
                                              refine lv_iload_n hx hb dX7_readValues_57 rfl (lv_at hl 1 rfl) ?_
                                              refine r_ild X art 3 (nI_cl (by omega) rfl) (nI_nn (by omega) rfl) (by omega) dX7_readValues_58 ?_
                                              rw [show (upd (upd (upd (upd tf 0 (nvI f n 0 99 i)) 1 (nvI f n 0 99 ((pnS f n i 99).2 + 1))) 2 (nvI f n 0 99 ((pnS f n ((pnS f n i 99).2 + 1) 99).2 + 1))) 3 (nvI f n 0 99 ((pnS f n ((pnS f n ((pnS f n i 99).2 + 1) 99).2 + 1) 99).2 + 1))) 3 = (nvI f n 0 99 ((pnS f n ((pnS f n ((pnS f n i 99).2 + 1) 99).2 + 1) 99).2 + 1)) from (upd_s _ _ _)]
                                              refine lv_iconst (v := (-1)) hx hb dX7_readValues_59 (by decide) ?_
                                              refine lv_icmp_eq (tgt := 67) hx hb dX7_readValues_60 (by decide) (fun c_60 => ?_) (fun c_60 => ?_)
                                              ·
                                                have z3 := nl_f (by omega) (by omega) c_60
                                                refine lv_iconst (v := nI 0) hx hb dX7_readValues_67 (by decide) ?_
                                                refine lv_istore_n (lv' := [(1, .int _), (2, .int _), (0, .ref _)]) hx hb dX7_readValues_68 rfl hl (by decide) rfl (fun ls hl => ?_)
                                                refine lv_iinc (v := nI (4)) (lv' := [(2, .int _), (1, .int _), (0, .ref _)]) hx hb dX7_readValues_69 hl (k := 1) rfl (nI_iinc _ 1 rfl) (by decide) rfl (fun ls hl => ?_)
                                                refine lv_goto (tgt := 4) hx hb dX7_readValues_72 (by decide) ?_
                                                refine lv_iload_n hx hb dX7_readValues_4 rfl (lv_at hl 0 rfl) ?_
                                                refine lv_iconst (v := nI 4) hx hb dX7_readValues_5 (by decide) ?_
                                                refine n_icmp_ge (tgt := 75) X dX7_readValues_6 (by decide) (by omega) (by omega) (fun c_6 => ?_) (fun c_6 => ?_)
                                                ·
                                                  refine lv_iload_n hx hb dX7_readValues_75 rfl (lv_at hl 1 rfl) ?_
                                                  have hpa : paS f n i = (false, (pnS f n ((pnS f n ((pnS f n ((pnS f n i 99).2 + 1) 99).2 + 1) 99).2 + 1) 99).2) := by simp only [paS, thB, z0, y1, (pS_t y1).1, z1, y2, (pS_t y2).1, z2, y3, (pS_t y3).1, if_true]; exact Prod.ext z3 rfl
                                                  exact r_iret X hL rfl rfl dX7_readValues_76 (by omega) (by omega) ⟨v_f (by rw [hpa]), ⟨_, _, by rw [hpa]; exact ⟨orr, art, oo, hbf⟩, fun h => absurd (show false = true from by rw [hpa] at h; exact h) (by decide)⟩, hC⟩
                                                ·
                                                  exact absurd c_6 (by decide)
                                              ·
                                                obtain ⟨z3, zv3⟩ := nl_t (by omega) (by omega) c_60
                                                refine lv_iconst (v := nI 1) hx hb dX7_readValues_63 (by decide) ?_
                                                refine lv_goto (tgt := 68) hx hb dX7_readValues_64 (by decide) ?_
                                                refine lv_istore_n (lv' := [(1, .int _), (2, .int _), (0, .ref _)]) hx hb dX7_readValues_68 rfl hl (by decide) rfl (fun ls hl => ?_)
                                                refine lv_iinc (v := nI (4)) (lv' := [(2, .int _), (1, .int _), (0, .ref _)]) hx hb dX7_readValues_69 hl (k := 1) rfl (nI_iinc _ 1 rfl) (by decide) rfl (fun ls hl => ?_)
                                                refine lv_goto (tgt := 4) hx hb dX7_readValues_72 (by decide) ?_
                                                refine lv_iload_n hx hb dX7_readValues_4 rfl (lv_at hl 0 rfl) ?_
                                                refine lv_iconst (v := nI 4) hx hb dX7_readValues_5 (by decide) ?_
                                                refine n_icmp_ge (tgt := 75) X dX7_readValues_6 (by decide) (by omega) (by omega) (fun c_6 => ?_) (fun c_6 => ?_)
                                                ·
                                                  refine lv_iload_n hx hb dX7_readValues_75 rfl (lv_at hl 1 rfl) ?_
                                                  have hpa : paS f n i = pnS f n (((pnS f n ((pnS f n ((pnS f n i 99).2 + 1) 99).2 + 1) 99).2 + 1)) 99 := by simp only [paS, thB, z0, y1, (pS_t y1).1, z1, y2, (pS_t y2).1, z2, y3, (pS_t y3).1, if_true]
                                                  exact r_iret X hL rfl rfl dX7_readValues_76 (by omega) (by omega) ⟨v_t (by rw [hpa]; exact z3), ⟨_, _, by rw [hpa]; exact ⟨orr, art, oo, hbf⟩, fun _ => ⟨by rw [upd_n _ _ (by decide), upd_n _ _ (by decide), upd_n _ _ (by decide), upd_s]; exact zv0, by rw [upd_n _ _ (by decide), upd_n _ _ (by decide), upd_s]; exact zv1, by rw [upd_n _ _ (by decide), upd_s]; exact zv2, by rw [upd_s]; exact zv3⟩⟩, hC⟩
                                                ·
                                                  exact absurd c_6 (by decide)
      ·
        exact absurd c_14 (by decide)
theorem vb_X7_readValues : VB yX7_readValues cX7_readValues 3 (some .boolean) 0 := ⟨q953, qs12, q130, q954, ⟨by decide, by decide, by decide +kernel⟩⟩

set_option maxRecDepth 100000 in
set_option maxHeartbeats 4000000 in
theorem ct_X7_readOffer (l : Launch) (g : GT) (PB : Nat → Prop) (f : Nat → Int32) (n i : Nat) (w sd : Int32) (tf : Nat → Int32) (rd ta o st dq sl bf : Nat) (hs : Int64) (hF : RdF g PB rd ta o) (hin : i ≤ n) : Ct l g yX7_readOffer cX7_readOffer 1 (some .boolean) 8 0 0 [.ref rd] (RdX g PB f n i w sd tf rd ta o st dq sl bf hs) (fun r H H1 => r = some (.int (bI (pnS f n i 39).1)) ∧ (∃ sd1 tf1, RdX g PB f n (pnS f n i 39).2 w sd1 tf1 rd ta o st dq sl bf hs H1 ∧ ((pnS f n i 39).1 = true → tf1 0 = nbI f n i 39)) ∧ Chg (fun q => q = rd ∨ q = ta) H H1) := by
  refine Ct.of (by decide) (Nat.le_of_ble_eq_true rfl) ?_
  intro p e s m args below meth c X hP ls hl
  have hx := X.1
  have hb := X.2.1
  have hKV := X.2.2.2.2.2.2.2.1.1
  have hL : ∀ q ∈ ([] : List Loc), gLo g ≤ q.base := fun _ h => by cases h
  obtain ⟨orr, art, oo, hbf⟩ := hP
  obtain ⟨lrd, lta, n1, n2, n3, n4, n5⟩ := id hF
  have hl : lv_has ls 1 [(0, .ref rd)] := hl
  have hC : Chg (fun q => q = rd ∨ q = ta) s.heap s.heap := Chg.rfl'
  have hdj : ∀ q, PB q → ¬ (q = rd ∨ q = ta) := fun q hq z => z.elim (fun z => n4 (z ▸ hq)) (fun z => n5 (z ▸ hq))
  have hcr := hbf.chr
  refine lv_aload_n hx hb dX7_readOffer_0 rfl (lv_at hl 0 rfl) ?_
  refine r_get (C := RX7) (T := TX7) (N := 5) (ci := 6) X in_X7 rfl 3 (Nat.le_of_ble_eq_true rfl) q911 (fun _ h => h) orr rfl dX7_readOffer_1 ?_
  refine lv_iconst (v := nI 0) hx hb dX7_readOffer_4 (by decide) ?_
  refine lv_aload_n hx hb dX7_readOffer_5 rfl (lv_at hl 0 rfl) ?_
  refine lv_iconst (v := nI 0) hx hb dX7_readOffer_6 (by decide) ?_
  refine lv_bipush (v := nI 39) hx hb dX7_readOffer_7 (by decide) ?_
  refine Ct.callV (ct_X7_number l g PB f n i w sd tf rd ta o st dq sl bf hs 0 39 hF hin (by omega) (by omega)) X hL hl vb_X7_number q959 (orr.recv hKV rfl) rfl rfl (Nat.le_of_ble_eq_true rfl) dX7_readOffer_9 ⟨Nat.le_of_ble_eq_true rfl, Nat.le_of_ble_eq_true rfl⟩ (by omega) (by omega) ⟨orr, art, oo, hbf⟩ (fun r H locs hL hp => ?_)
  obtain ⟨rfl, ⟨orr, art, oo, hbf⟩, hC1⟩ := hp
  have hC := hC.trans hC1
  rw [(nv_lo (f := f) (n := n) (i := i) (t := 39) (by omega) (by omega)).1] at orr
  have hin := (pnS_b (f := f) (t := 39) hin).2
  refine r_ist X hL art lta 0 (nI_cl (by omega) rfl) (nI_nn (by omega) rfl) (by omega) dX7_readOffer_12 (fun H locs hL h1 h2 => ?_)
  have art : Ar g ta 0 4 (upd tf 0 (nvI f n 0 39 i)) H := h1
  have orr := orr.on h2 n1
  have oo := oo.on h2 (Ne.symm n3)
  have hbf := hbf.keep (h2.chg (P := fun q => q = rd ∨ q = ta) (Or.inr rfl)) hdj
  have hC := hC.trans (h2.chg (Or.inr rfl))
  refine lv_aload_n hx hb dX7_readOffer_13 rfl (lv_at hl 0 rfl) ?_
  refine r_get (C := RX7) (T := TX7) (N := 5) (ci := 6) X in_X7 rfl 3 (Nat.le_of_ble_eq_true rfl) q911 (fun _ h => h) orr rfl dX7_readOffer_14 ?_
  refine lv_iconst (v := nI 0) hx hb dX7_readOffer_17 (by decide) ?_
  refine r_ild X art 0 (nI_cl (by omega) rfl) (nI_nn (by omega) rfl) (by omega) dX7_readOffer_18 ?_
  rw [show (upd tf 0 (nvI f n 0 39 i)) 0 = (nvI f n 0 39 i) from (upd_s _ _ _)]
  refine lv_iconst (v := (-1)) hx hb dX7_readOffer_19 (by decide) ?_
  refine lv_icmp_eq (tgt := 27) hx hb dX7_readOffer_20 (by decide) (fun c_20 => ?_) (fun c_20 => ?_)
  ·
    refine lv_iconst (v := nI 0) hx hb dX7_readOffer_27 (by decide) ?_
    exact r_iret X hL rfl rfl dX7_readOffer_28 (by omega) (by omega) ⟨v_f (nl_f (by omega) (by omega) c_20), ⟨_, _, ⟨orr, art, oo, hbf⟩, fun h => absurd h (by rw [nl_f (by omega) (by omega) c_20]; decide)⟩, hC⟩
  ·
    refine lv_iconst (v := nI 1) hx hb dX7_readOffer_23 (by decide) ?_
    refine lv_goto (tgt := 28) hx hb dX7_readOffer_24 (by decide) ?_
    exact r_iret X hL rfl rfl dX7_readOffer_28 (by omega) (by omega) ⟨v_t (nl_t (by omega) (by omega) c_20).1, ⟨_, _, ⟨orr, art, oo, hbf⟩, fun _ => by rw [upd_s]; exact (nl_t (by omega) (by omega) c_20).2⟩, hC⟩
theorem vb_X7_readOffer : VB yX7_readOffer cX7_readOffer 1 (some .boolean) 0 := ⟨q971, qs16, q130, q972, ⟨by decide, by decide, by decide +kernel⟩⟩

set_option maxRecDepth 100000 in
set_option maxHeartbeats 4000000 in
theorem ct_X7_readWish (l : Launch) (g : GT) (PB : Nat → Prop) (f : Nat → Int32) (n i : Nat) (w sd : Int32) (tf : Nat → Int32) (rd ta o st dq sl bf : Nat) (hs : Int64) (hF : RdF g PB rd ta o) (hin : i ≤ n) : Ct l g yX7_readWish cX7_readWish 1 (some .boolean) 8 0 0 [.ref rd] (RdX g PB f n i w sd tf rd ta o st dq sl bf hs) (fun r H H1 => r = some (.int (bI (pwS f n i).1)) ∧ (∃ sd1 tf1, RdX g PB f n (pwS f n i).2 w sd1 tf1 rd ta o st dq sl bf hs H1 ∧ ((pwS f n i).1 = true → sd1 = f i - nI 48 ∧ tf1 0 = (if f (i + 1) = nI 45 then nI 0 else if f (i + 1) = nI 43 then nI 1 else nI 2))) ∧ Chg (fun q => q = rd ∨ q = ta) H H1) := by
  refine Ct.of (by decide) (Nat.le_of_ble_eq_true rfl) ?_
  intro p e s m args below meth c X hP ls hl
  have hx := X.1
  have hb := X.2.1
  have hKV := X.2.2.2.2.2.2.2.1.1
  have hL : ∀ q ∈ ([] : List Loc), gLo g ≤ q.base := fun _ h => by cases h
  obtain ⟨orr, art, oo, hbf⟩ := hP
  obtain ⟨lrd, lta, n1, n2, n3, n4, n5⟩ := id hF
  have hl : lv_has ls 1 [(0, .ref rd)] := hl
  have hC : Chg (fun q => q = rd ∨ q = ta) s.heap s.heap := Chg.rfl'
  have hdj : ∀ q, PB q → ¬ (q = rd ∨ q = ta) := fun q hq z => z.elim (fun z => n4 (z ▸ hq)) (fun z => n5 (z ▸ hq))
  have hcr := hbf.chr
  refine lv_aload_n hx hb dX7_readWish_0 rfl (lv_at hl 0 rfl) ?_
  refine lv_aload_n hx hb dX7_readWish_1 rfl (lv_at hl 0 rfl) ?_
  refine lv_iconst (v := nI 3) hx hb dX7_readWish_2 (by decide) ?_
  refine Ct.callV (ct_X7_digit l g PB f n i w sd tf rd ta o st dq sl bf hs hF hin) X hL hl vb_X7_digit q977 (orr.recv hKV rfl) rfl rfl (Nat.le_of_ble_eq_true rfl) dX7_readWish_3 ⟨Nat.le_of_ble_eq_true rfl, Nat.le_of_ble_eq_true rfl⟩ (by omega) (by omega) ⟨orr, art, oo, hbf⟩ (fun r H locs hL hp => ?_)
  obtain ⟨rfl, ⟨orr, art, oo, hbf⟩, hC1⟩ := hp
  have hC := hC.trans hC1
  have hin := (pS_b (f := f) (a := 48) (b := 51) hin).2
  refine r_put (C := RX7) (T := TX7) (N := 5) (ci := 6) X in_X7 tyX7 tyX7_ok nmX7 rfl 2 (Nat.le_of_ble_eq_true rfl) q910 (fun _ h => h) rfl hL orr lrd rfl rfl (Nat.le_of_ble_eq_true rfl) dX7_readWish_6 (fun H locs hL h1 h2 => ?_)
  have orr : Ob g rd 6 [.int (nI ((pS f n i 48 51).2)), .int w, .int (if (pS f n i 48 51).1 then f i - nI 48 else -1), .ref ta, .ref o] H := h1
  have art := art.on h2 (Ne.symm n1)
  have oo := oo.on h2 (Ne.symm n2)
  have hbf := hbf.keep (h2.chg (P := fun q => q = rd ∨ q = ta) (Or.inl rfl)) hdj
  have hC := hC.trans (h2.chg (Or.inl rfl))
  refine lv_aload_n hx hb dX7_readWish_9 rfl (lv_at hl 0 rfl) ?_
  refine r_get (C := RX7) (T := TX7) (N := 5) (ci := 6) X in_X7 rfl 2 (Nat.le_of_ble_eq_true rfl) q910 (fun _ h => h) orr rfl dX7_readWish_10 ?_
  refine lv_iconst (v := (-1)) hx hb dX7_readWish_13 (by decide) ?_
  refine lv_icmp_ne (tgt := 19) hx hb dX7_readWish_14 (by decide) (fun c_14 => ?_) (fun c_14 => ?_)
  ·
    have z0 := dgm_t c_14
    rw [(pS_t z0).1] at orr hin
    refine lv_aload_n hx hb dX7_readWish_19 rfl (lv_at hl 0 rfl) ?_
    refine r_get (C := RX7) (T := TX7) (N := 5) (ci := 6) X in_X7 rfl 3 (Nat.le_of_ble_eq_true rfl) q911 (fun _ h => h) orr rfl dX7_readWish_20 ?_
    refine lv_iconst (v := nI 0) hx hb dX7_readWish_23 (by decide) ?_
    refine lv_aload_n hx hb dX7_readWish_24 rfl (lv_at hl 0 rfl) ?_
    refine lv_bipush (v := nI 45) hx hb dX7_readWish_25 (by decide) ?_
    refine Ct.callV (ct_X7_isNext l g PB f n (i + 1) w (if (pS f n i 48 51).1 then f i - nI 48 else -1) tf rd ta o st dq sl bf hs 45 hF hin (by omega) (by omega)) X hL hl vb_X7_isNext q955 (orr.recv hKV rfl) rfl rfl (Nat.le_of_ble_eq_true rfl) dX7_readWish_27 ⟨Nat.le_of_ble_eq_true rfl, Nat.le_of_ble_eq_true rfl⟩ (by omega) (by omega) ⟨orr, art, oo, hbf⟩ (fun r H locs hL hp => ?_)
    obtain ⟨rfl, ⟨orr, art, oo, hbf⟩, hC1⟩ := hp
    have hC := hC.trans hC1
    have hin := (pS_b (f := f) (a := 45) (b := 45) hin).2
    refine b_ifeq (tgt := 37) X dX7_readWish_30 (by decide) (fun c_30 => ?_) (fun c_30 => ?_)
    ·
      have y45 := c_30
      rw [pS_f y45] at orr hin
      refine lv_aload_n hx hb dX7_readWish_37 rfl (lv_at hl 0 rfl) ?_
      refine lv_bipush (v := nI 43) hx hb dX7_readWish_38 (by decide) ?_
      refine Ct.callV (ct_X7_isNext l g PB f n (i + 1) w (if (pS f n i 48 51).1 then f i - nI 48 else -1) tf rd ta o st dq sl bf hs 43 hF hin (by omega) (by omega)) X hL hl vb_X7_isNext q955 (orr.recv hKV rfl) rfl rfl (Nat.le_of_ble_eq_true rfl) dX7_readWish_40 ⟨Nat.le_of_ble_eq_true rfl, Nat.le_of_ble_eq_true rfl⟩ (by omega) (by omega) ⟨orr, art, oo, hbf⟩ (fun r H locs hL hp => ?_)
      obtain ⟨rfl, ⟨orr, art, oo, hbf⟩, hC1⟩ := hp
      have hC := hC.trans hC1
      have hin := (pS_b (f := f) (a := 43) (b := 43) hin).2
      refine b_ifeq (tgt := 50) X dX7_readWish_43 (by decide) (fun c_43 => ?_) (fun c_43 => ?_)
      ·
        have y43 := c_43
        rw [pS_f y43] at orr hin
        refine lv_aload_n hx hb dX7_readWish_50 rfl (lv_at hl 0 rfl) ?_
        refine lv_bipush (v := nI 48) hx hb dX7_readWish_51 (by decide) ?_
        refine Ct.callV (ct_X7_isNext l g PB f n (i + 1) w (if (pS f n i 48 51).1 then f i - nI 48 else -1) tf rd ta o st dq sl bf hs 48 hF hin (by omega) (by omega)) X hL hl vb_X7_isNext q955 (orr.recv hKV rfl) rfl rfl (Nat.le_of_ble_eq_true rfl) dX7_readWish_53 ⟨Nat.le_of_ble_eq_true rfl, Nat.le_of_ble_eq_true rfl⟩ (by omega) (by omega) ⟨orr, art, oo, hbf⟩ (fun r H locs hL hp => ?_)
        obtain ⟨rfl, ⟨orr, art, oo, hbf⟩, hC1⟩ := hp
        have hC := hC.trans hC1
        have hin := (pS_b (f := f) (a := 48) (b := 48) hin).2
        refine b_ifeq (tgt := 63) X dX7_readWish_56 (by decide) (fun c_56 => ?_) (fun c_56 => ?_)
        ·
          have y48 := c_56
          rw [pS_f y48] at orr hin
          refine lv_iconst (v := (-1)) hx hb dX7_readWish_63 (by decide) ?_
          refine r_ist X hL art lta 0 (nI_cl (by omega) rfl) (nI_nn (by omega) rfl) (by omega) dX7_readWish_64 (fun H locs hL h1 h2 => ?_)
          have art : Ar g ta 0 4 (upd tf 0 (-1)) H := h1
          have orr := orr.on h2 n1
          have oo := oo.on h2 (Ne.symm n3)
          have hbf := hbf.keep (h2.chg (P := fun q => q = rd ∨ q = ta) (Or.inr rfl)) hdj
          have hC := hC.trans (h2.chg (Or.inr rfl))
          refine lv_aload_n hx hb dX7_readWish_65 rfl (lv_at hl 0 rfl) ?_
          refine r_get (C := RX7) (T := TX7) (N := 5) (ci := 6) X in_X7 rfl 3 (Nat.le_of_ble_eq_true rfl) q911 (fun _ h => h) orr rfl dX7_readWish_66 ?_
          refine lv_iconst (v := nI 0) hx hb dX7_readWish_69 (by decide) ?_
          refine r_ild X art 0 (nI_cl (by omega) rfl) (nI_nn (by omega) rfl) (by omega) dX7_readWish_70 ?_
          rw [show (upd tf 0 (-1)) 0 = (-1) from (upd_s _ _ _)]
          refine lv_iconst (v := (-1)) hx hb dX7_readWish_71 (by decide) ?_
          refine lv_icmp_eq (tgt := 79) hx hb dX7_readWish_72 (by decide) (fun c_72 => ?_) (fun c_72 => ?_)
          ·
            refine lv_iconst (v := nI 0) hx hb dX7_readWish_79 (by decide) ?_
            have hpw : pwS f n i = pS f n (i + 1) 48 48 := by simp only [pwS, thB, ifP, z0, (pS_t z0).1, y45, pS_f y45, y43, pS_f y43, Bool.false_eq_true, if_false, if_true]
            exact r_iret X hL rfl rfl dX7_readWish_80 (by omega) (by omega) ⟨v_f (by rw [hpw]; exact y48), ⟨_, _, by rw [hpw, pS_f y48]; exact ⟨orr, art, oo, hbf⟩, fun h => absurd h (by rw [hpw, y48]; decide)⟩, hC⟩
          ·
            exact absurd rfl c_72
        ·
          have y48 := c_56
          rw [(pS_t y48).1] at orr hin
          refine lv_iconst (v := nI 2) hx hb dX7_readWish_59 (by decide) ?_
          refine lv_goto (tgt := 64) hx hb dX7_readWish_60 (by decide) ?_
          refine r_ist X hL art lta 0 (nI_cl (by omega) rfl) (nI_nn (by omega) rfl) (by omega) dX7_readWish_64 (fun H locs hL h1 h2 => ?_)
          have art : Ar g ta 0 4 (upd tf 0 (nI 2)) H := h1
          have orr := orr.on h2 n1
          have oo := oo.on h2 (Ne.symm n3)
          have hbf := hbf.keep (h2.chg (P := fun q => q = rd ∨ q = ta) (Or.inr rfl)) hdj
          have hC := hC.trans (h2.chg (Or.inr rfl))
          refine lv_aload_n hx hb dX7_readWish_65 rfl (lv_at hl 0 rfl) ?_
          refine r_get (C := RX7) (T := TX7) (N := 5) (ci := 6) X in_X7 rfl 3 (Nat.le_of_ble_eq_true rfl) q911 (fun _ h => h) orr rfl dX7_readWish_66 ?_
          refine lv_iconst (v := nI 0) hx hb dX7_readWish_69 (by decide) ?_
          refine r_ild X art 0 (nI_cl (by omega) rfl) (nI_nn (by omega) rfl) (by omega) dX7_readWish_70 ?_
          rw [show (upd tf 0 (nI 2)) 0 = (nI 2) from (upd_s _ _ _)]
          refine lv_iconst (v := (-1)) hx hb dX7_readWish_71 (by decide) ?_
          refine lv_icmp_eq (tgt := 79) hx hb dX7_readWish_72 (by decide) (fun c_72 => ?_) (fun c_72 => ?_)
          ·
            exact absurd c_72 (by decide)
          ·
            refine lv_iconst (v := nI 1) hx hb dX7_readWish_75 (by decide) ?_
            refine lv_goto (tgt := 80) hx hb dX7_readWish_76 (by decide) ?_
            have hpw : pwS f n i = pS f n (i + 1) 48 48 := by simp only [pwS, thB, ifP, z0, (pS_t z0).1, y45, pS_f y45, y43, pS_f y43, Bool.false_eq_true, if_false, if_true]
            exact r_iret X hL rfl rfl dX7_readWish_80 (by omega) (by omega) ⟨v_t (by rw [hpw]; exact y48), ⟨_, _, by rw [hpw, (pS_t y48).1]; exact ⟨orr, art, oo, hbf⟩, fun _ => ⟨by rw [if_pos z0], by rw [upd_s]; exact ((if_neg (see_no y45 (see_1.mp y48).1)).trans (if_neg (see_no y43 (see_1.mp y48).1))).symm⟩⟩, hC⟩
      ·
        have y43 := c_43
        rw [(pS_t y43).1] at orr hin
        refine lv_iconst (v := nI 1) hx hb dX7_readWish_46 (by decide) ?_
        refine lv_goto (tgt := 64) hx hb dX7_readWish_47 (by decide) ?_
        refine r_ist X hL art lta 0 (nI_cl (by omega) rfl) (nI_nn (by omega) rfl) (by omega) dX7_readWish_64 (fun H locs hL h1 h2 => ?_)
        have art : Ar g ta 0 4 (upd tf 0 (nI 1)) H := h1
        have orr := orr.on h2 n1
        have oo := oo.on h2 (Ne.symm n3)
        have hbf := hbf.keep (h2.chg (P := fun q => q = rd ∨ q = ta) (Or.inr rfl)) hdj
        have hC := hC.trans (h2.chg (Or.inr rfl))
        refine lv_aload_n hx hb dX7_readWish_65 rfl (lv_at hl 0 rfl) ?_
        refine r_get (C := RX7) (T := TX7) (N := 5) (ci := 6) X in_X7 rfl 3 (Nat.le_of_ble_eq_true rfl) q911 (fun _ h => h) orr rfl dX7_readWish_66 ?_
        refine lv_iconst (v := nI 0) hx hb dX7_readWish_69 (by decide) ?_
        refine r_ild X art 0 (nI_cl (by omega) rfl) (nI_nn (by omega) rfl) (by omega) dX7_readWish_70 ?_
        rw [show (upd tf 0 (nI 1)) 0 = (nI 1) from (upd_s _ _ _)]
        refine lv_iconst (v := (-1)) hx hb dX7_readWish_71 (by decide) ?_
        refine lv_icmp_eq (tgt := 79) hx hb dX7_readWish_72 (by decide) (fun c_72 => ?_) (fun c_72 => ?_)
        ·
          exact absurd c_72 (by decide)
        ·
          refine lv_iconst (v := nI 1) hx hb dX7_readWish_75 (by decide) ?_
          refine lv_goto (tgt := 80) hx hb dX7_readWish_76 (by decide) ?_
          have hpw : pwS f n i = (true, i + 1 + 1) := by simp only [pwS, thB, ifP, z0, (pS_t z0).1, y45, pS_f y45, y43, (pS_t y43).1, Bool.false_eq_true, if_false, if_true]
          exact r_iret X hL rfl rfl dX7_readWish_80 (by omega) (by omega) ⟨v_t (by rw [hpw]), ⟨_, _, by rw [hpw]; exact ⟨orr, art, oo, hbf⟩, fun _ => ⟨by rw [if_pos z0], by rw [upd_s]; exact ((if_neg (see_no y45 (see_1.mp y43).1)).trans (if_pos (see_1.mp y43).2)).symm⟩⟩, hC⟩
    ·
      have y45 := c_30
      rw [(pS_t y45).1] at orr hin
      refine lv_iconst (v := nI 0) hx hb dX7_readWish_33 (by decide) ?_
      refine lv_goto (tgt := 64) hx hb dX7_readWish_34 (by decide) ?_
      refine r_ist X hL art lta 0 (nI_cl (by omega) rfl) (nI_nn (by omega) rfl) (by omega) dX7_readWish_64 (fun H locs hL h1 h2 => ?_)
      have art : Ar g ta 0 4 (upd tf 0 (nI 0)) H := h1
      have orr := orr.on h2 n1
      have oo := oo.on h2 (Ne.symm n3)
      have hbf := hbf.keep (h2.chg (P := fun q => q = rd ∨ q = ta) (Or.inr rfl)) hdj
      have hC := hC.trans (h2.chg (Or.inr rfl))
      refine lv_aload_n hx hb dX7_readWish_65 rfl (lv_at hl 0 rfl) ?_
      refine r_get (C := RX7) (T := TX7) (N := 5) (ci := 6) X in_X7 rfl 3 (Nat.le_of_ble_eq_true rfl) q911 (fun _ h => h) orr rfl dX7_readWish_66 ?_
      refine lv_iconst (v := nI 0) hx hb dX7_readWish_69 (by decide) ?_
      refine r_ild X art 0 (nI_cl (by omega) rfl) (nI_nn (by omega) rfl) (by omega) dX7_readWish_70 ?_
      rw [show (upd tf 0 (nI 0)) 0 = (nI 0) from (upd_s _ _ _)]
      refine lv_iconst (v := (-1)) hx hb dX7_readWish_71 (by decide) ?_
      refine lv_icmp_eq (tgt := 79) hx hb dX7_readWish_72 (by decide) (fun c_72 => ?_) (fun c_72 => ?_)
      ·
        exact absurd c_72 (by decide)
      ·
        refine lv_iconst (v := nI 1) hx hb dX7_readWish_75 (by decide) ?_
        refine lv_goto (tgt := 80) hx hb dX7_readWish_76 (by decide) ?_
        have hpw : pwS f n i = (true, i + 1 + 1) := by simp only [pwS, thB, ifP, z0, (pS_t z0).1, y45, (pS_t y45).1, Bool.false_eq_true, if_false, if_true]
        exact r_iret X hL rfl rfl dX7_readWish_80 (by omega) (by omega) ⟨v_t (by rw [hpw]), ⟨_, _, by rw [hpw]; exact ⟨orr, art, oo, hbf⟩, fun _ => ⟨by rw [if_pos z0], by rw [upd_s]; exact (if_pos (see_1.mp y45).2).symm⟩⟩, hC⟩
  ·
    have z0 := dgm_f (c_14)
    refine lv_iconst (v := nI 0) hx hb dX7_readWish_17 (by decide) ?_
    have hpw : pwS f n i = (false, (pS f n i 48 51).2) := by simp only [pwS, thB, z0, Bool.false_eq_true, if_false, if_true]
    exact r_iret X hL rfl rfl dX7_readWish_18 (by omega) (by omega) ⟨v_f (by rw [hpw]), ⟨_, _, by rw [hpw]; exact ⟨orr, art, oo, hbf⟩, fun h => absurd (show false = true from by rw [hpw] at h; exact h) (by decide)⟩, hC⟩
theorem vb_X7_readWish : VB yX7_readWish cX7_readWish 1 (some .boolean) 0 := ⟨q975, qs17, q130, q976, ⟨by decide, by decide, by decide +kernel⟩⟩
