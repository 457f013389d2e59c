set_option maxRecDepth 100000 in
set_option maxHeartbeats 4000000 in
theorem ct_X7_readBounds (l : Launch) (g : GT) (PB : Nat → Prop) (f : Nat → Int32) (n i : Nat) (w sd : Int32) (tf : Nat → Int32) (rd ta o st dq sl bf : Nat) (hs : Int64) (hF : RdF g PB rd ta o) (hin : i ≤ n) : Ct l g yX7_readBounds cX7_readBounds 1 (some .boolean) 8 0 0 [.ref rd] (RdX g PB f n i w sd tf rd ta o st dq sl bf hs) (fun r H H1 => r = some (.int (bI (pbS f n i).1)) ∧ (∃ sd1 tf1, RdX g PB f n (pbS f n i).2 w sd1 tf1 rd ta o st dq sl bf hs H1 ∧ ((pbS f n i).1 = true → sd1 = f i - nI 48 ∧ tf1 0 = nbI f n (i + 1 + 1) 99 ∧ tf1 1 = numI f ((pnS f n (i + 1 + 1) 99).2 + 1) ((pbS f n i).2 - ((pnS f n (i + 1 + 1) 99).2 + 1)))) ∧ Chg (fun q => q = rd ∨ q = ta) H H1) := by
  refine Ct.of (by decide) (Nat.le_of_ble_eq_true rfl) ?_
  intro p e s m args below meth c X hP ls hl
  have hx := X.1
  have hb := X.2.1
  have hKV := X.2.2.2.2.2.2.2.1.1
  have hL : ∀ q ∈ ([] : List Loc), gLo g ≤ q.base := fun _ h => by cases h
  obtain ⟨orr, art, oo, hbf⟩ := hP
  obtain ⟨lrd, lta, n1, n2, n3, n4, n5⟩ := id hF
  have hl : lv_has ls 1 [(0, .ref rd)] := hl
  have hC : Chg (fun q => q = rd ∨ q = ta) s.heap s.heap := Chg.rfl'
  have hdj : ∀ q, PB q → ¬ (q = rd ∨ q = ta) := fun q hq z => z.elim (fun z => n4 (z ▸ hq)) (fun z => n5 (z ▸ hq))
  have hcr := hbf.chr
  refine lv_aload_n hx hb dX7_readBounds_0 rfl (lv_at hl 0 rfl) ?_
  refine lv_aload_n hx hb dX7_readBounds_1 rfl (lv_at hl 0 rfl) ?_
  refine lv_iconst (v := nI 3) hx hb dX7_readBounds_2 (by decide) ?_
  refine Ct.callV (ct_X7_digit l g PB f n i w sd tf rd ta o st dq sl bf hs hF hin) X hL hl vb_X7_digit q977 (orr.recv hKV rfl) rfl rfl (Nat.le_of_ble_eq_true rfl) dX7_readBounds_3 ⟨Nat.le_of_ble_eq_true rfl, Nat.le_of_ble_eq_true rfl⟩ (by omega) (by omega) ⟨orr, art, oo, hbf⟩ (fun r H locs hL hp => ?_)
  obtain ⟨rfl, ⟨orr, art, oo, hbf⟩, hC1⟩ := hp
  have hC := hC.trans hC1
  have hin := (pS_b (f := f) (a := 48) (b := 51) hin).2
  refine r_put (C := RX7) (T := TX7) (N := 5) (ci := 6) X in_X7 tyX7 tyX7_ok nmX7 rfl 2 (Nat.le_of_ble_eq_true rfl) q910 (fun _ h => h) rfl hL orr lrd rfl rfl (Nat.le_of_ble_eq_true rfl) dX7_readBounds_6 (fun H locs hL h1 h2 => ?_)
  have orr : Ob g rd 6 [.int (nI ((pS f n i 48 51).2)), .int w, .int (if (pS f n i 48 51).1 then f i - nI 48 else -1), .ref ta, .ref o] H := h1
  have art := art.on h2 (Ne.symm n1)
  have oo := oo.on h2 (Ne.symm n2)
  have hbf := hbf.keep (h2.chg (P := fun q => q = rd ∨ q = ta) (Or.inl rfl)) hdj
  have hC := hC.trans (h2.chg (Or.inl rfl))
  refine lv_aload_n hx hb dX7_readBounds_9 rfl (lv_at hl 0 rfl) ?_
  refine r_get (C := RX7) (T := TX7) (N := 5) (ci := 6) X in_X7 rfl 3 (Nat.le_of_ble_eq_true rfl) q911 (fun _ h => h) orr rfl dX7_readBounds_10 ?_
  refine lv_iconst (v := nI 0) hx hb dX7_readBounds_13 (by decide) ?_
  refine lv_aload_n hx hb dX7_readBounds_14 rfl (lv_at hl 0 rfl) ?_
  refine r_get (C := RX7) (T := TX7) (N := 5) (ci := 6) X in_X7 rfl 2 (Nat.le_of_ble_eq_true rfl) q910 (fun _ h => h) orr rfl dX7_readBounds_15 ?_
  refine lv_iconst (v := (-1)) hx hb dX7_readBounds_18 (by decide) ?_
  refine lv_icmp_eq (tgt := 41) hx hb dX7_readBounds_19 (by decide) (fun c_19 => ?_) (fun c_19 => ?_)
  ·
    have z0 := dgm_f c_19
    refine lv_iconst (v := (-1)) hx hb dX7_readBounds_41 (by decide) ?_
    refine r_ist X hL art lta 0 (nI_cl (by omega) rfl) (nI_nn (by omega) rfl) (by omega) dX7_readBounds_42 (fun H locs hL h1 h2 => ?_)
    have art : Ar g ta 0 4 (upd tf 0 (-1)) H := h1
    have orr := orr.on h2 n1
    have oo := oo.on h2 (Ne.symm n3)
    have hbf := hbf.keep (h2.chg (P := fun q => q = rd ∨ q = ta) (Or.inr rfl)) hdj
    have hC := hC.trans (h2.chg (Or.inr rfl))
    refine lv_aload_n hx hb dX7_readBounds_43 rfl (lv_at hl 0 rfl) ?_
    refine r_get (C := RX7) (T := TX7) (N := 5) (ci := 6) X in_X7 rfl 3 (Nat.le_of_ble_eq_true rfl) q911 (fun _ h => h) orr rfl dX7_readBounds_44 ?_
    refine lv_iconst (v := nI 1) hx hb dX7_readBounds_47 (by decide) ?_
    refine lv_aload_n hx hb dX7_readBounds_48 rfl (lv_at hl 0 rfl) ?_
    refine r_get (C := RX7) (T := TX7) (N := 5) (ci := 6) X in_X7 rfl 3 (Nat.le_of_ble_eq_true rfl) q911 (fun _ h => h) orr rfl dX7_readBounds_49 ?_
    refine lv_iconst (v := nI 0) hx hb dX7_readBounds_52 (by decide) ?_
    refine r_ild X art 0 (nI_cl (by omega) rfl) (nI_nn (by omega) rfl) (by omega) dX7_readBounds_53 ?_
    rw [show (upd tf 0 (-1)) 0 = (-1) from (upd_s _ _ _)]
    refine lv_iconst (v := (-1)) hx hb dX7_readBounds_54 (by decide) ?_
    refine lv_icmp_eq (tgt := 82) hx hb dX7_readBounds_55 (by decide) (fun c_55 => ?_) (fun c_55 => ?_)
    ·
      refine lv_iconst (v := (-1)) hx hb dX7_readBounds_82 (by decide) ?_
      refine r_ist X hL art lta 1 (nI_cl (by omega) rfl) (nI_nn (by omega) rfl) (by omega) dX7_readBounds_83 (fun H locs hL h1 h2 => ?_)
      have art : Ar g ta 0 4 (upd (upd tf 0 (-1)) 1 (-1)) H := h1
      have orr := orr.on h2 n1
      have oo := oo.on h2 (Ne.symm n3)
      have hbf := hbf.keep (h2.chg (P := fun q => q = rd ∨ q = ta) (Or.inr rfl)) hdj
      have hC := hC.trans (h2.chg (Or.inr rfl))
      refine lv_aload_n hx hb dX7_readBounds_84 rfl (lv_at hl 0 rfl) ?_
      refine r_get (C := RX7) (T := TX7) (N := 5) (ci := 6) X in_X7 rfl 3 (Nat.le_of_ble_eq_true rfl) q911 (fun _ h => h) orr rfl dX7_readBounds_85 ?_
      refine lv_iconst (v := nI 1) hx hb dX7_readBounds_88 (by decide) ?_
      refine r_ild X art 1 (nI_cl (by omega) rfl) (nI_nn (by omega) rfl) (by omega) dX7_readBounds_89 ?_
      rw [show (upd (upd tf 0 (-1)) 1 (-1)) 1 = (-1) from (upd_s _ _ _)]
      refine lv_iconst (v := (-1)) hx hb dX7_readBounds_90 (by decide) ?_
      refine lv_icmp_eq (tgt := 98) hx hb dX7_readBounds_91 (by decide) (fun c_91 => ?_) (fun c_91 => ?_)
      ·
        refine lv_iconst (v := nI 0) hx hb dX7_readBounds_98 (by decide) ?_
        have hpb : pbS f n i = (false, (pS f n i 48 51).2) := by simp only [pbS, thB, z0, Bool.false_eq_true, if_false, if_true]
        exact r_iret X hL rfl rfl dX7_readBounds_99 (by omega) (by omega) ⟨v_f (by rw [hpb]), ⟨_, _, by rw [hpb]; exact ⟨orr, art, oo, hbf⟩, fun h => absurd (show false = true from by rw [hpb] at h; exact h) (by decide)⟩, hC⟩
      ·
        exact absurd rfl c_91
    ·
      exact absurd rfl c_55
  ·
    have z0 := dgm_t c_19
    rw [(pS_t z0).1] at orr hin
    refine lv_aload_n hx hb dX7_readBounds_22 rfl (lv_at hl 0 rfl) ?_
    refine lv_bipush (v := nI 61) hx hb dX7_readBounds_23 (by decide) ?_
    refine Ct.callV (ct_X7_isNext l g PB f n (i + 1) w (if (pS f n i 48 51).1 then f i - nI 48 else -1) tf rd ta o st dq sl bf hs 61 hF hin (by omega) (by omega)) X hL hl vb_X7_isNext q955 (orr.recv hKV rfl) rfl rfl (Nat.le_of_ble_eq_true rfl) dX7_readBounds_25 ⟨Nat.le_of_ble_eq_true rfl, Nat.le_of_ble_eq_true rfl⟩ (by omega) (by omega) ⟨orr, art, oo, hbf⟩ (fun r H locs hL hp => ?_)
    obtain ⟨rfl, ⟨orr, art, oo, hbf⟩, hC1⟩ := hp
    have hC := hC.trans hC1
    have hin := (pS_b (f := f) (a := 61) (b := 61) hin).2
    refine b_ifeq (tgt := 41) X dX7_readBounds_28 (by decide) (fun c_28 => ?_) (fun c_28 => ?_)
    ·
      have y1 := c_28
      rw [pS_f y1] at orr hin
      refine lv_iconst (v := (-1)) hx hb dX7_readBounds_41 (by decide) ?_
      refine r_ist X hL art lta 0 (nI_cl (by omega) rfl) (nI_nn (by omega) rfl) (by omega) dX7_readBounds_42 (fun H locs hL h1 h2 => ?_)
      have art : Ar g ta 0 4 (upd tf 0 (-1)) H := h1
      have orr := orr.on h2 n1
      have oo := oo.on h2 (Ne.symm n3)
      have hbf := hbf.keep (h2.chg (P := fun q => q = rd ∨ q = ta) (Or.inr rfl)) hdj
      have hC := hC.trans (h2.chg (Or.inr rfl))
      refine lv_aload_n hx hb dX7_readBounds_43 rfl (lv_at hl 0 rfl) ?_
      refine r_get (C := RX7) (T := TX7) (N := 5) (ci := 6) X in_X7 rfl 3 (Nat.le_of_ble_eq_true rfl) q911 (fun _ h => h) orr rfl dX7_readBounds_44 ?_
      refine lv_iconst (v := nI 1) hx hb dX7_readBounds_47 (by decide) ?_
      refine lv_aload_n hx hb dX7_readBounds_48 rfl (lv_at hl 0 rfl) ?_
      refine r_get (C := RX7) (T := TX7) (N := 5) (ci := 6) X in_X7 rfl 3 (Nat.le_of_ble_eq_true rfl) q911 (fun _ h => h) orr rfl dX7_readBounds_49 ?_
      refine lv_iconst (v := nI 0) hx hb dX7_readBounds_52 (by decide) ?_
      refine r_ild X art 0 (nI_cl (by omega) rfl) (nI_nn (by omega) rfl) (by omega) dX7_readBounds_53 ?_
      rw [show (upd tf 0 (-1)) 0 = (-1) from (upd_s _ _ _)]
      refine lv_iconst (v := (-1)) hx hb dX7_readBounds_54 (by decide) ?_
      refine lv_icmp_eq (tgt := 82) hx hb dX7_readBounds_55 (by decide) (fun c_55 => ?_) (fun c_55 => ?_)
      ·
        refine lv_iconst (v := (-1)) hx hb dX7_readBounds_82 (by decide) ?_
        refine r_ist X hL art lta 1 (nI_cl (by omega) rfl) (nI_nn (by omega) rfl) (by omega) dX7_readBounds_83 (fun H locs hL h1 h2 => ?_)
        have art : Ar g ta 0 4 (upd (upd tf 0 (-1)) 1 (-1)) H := h1
        have orr := orr.on h2 n1
        have oo := oo.on h2 (Ne.symm n3)
        have hbf := hbf.keep (h2.chg (P := fun q => q = rd ∨ q = ta) (Or.inr rfl)) hdj
        have hC := hC.trans (h2.chg (Or.inr rfl))
        refine lv_aload_n hx hb dX7_readBounds_84 rfl (lv_at hl 0 rfl) ?_
        refine r_get (C := RX7) (T := TX7) (N := 5) (ci := 6) X in_X7 rfl 3 (Nat.le_of_ble_eq_true rfl) q911 (fun _ h => h) orr rfl dX7_readBounds_85 ?_
        refine lv_iconst (v := nI 1) hx hb dX7_readBounds_88 (by decide) ?_
        refine r_ild X art 1 (nI_cl (by omega) rfl) (nI_nn (by omega) rfl) (by omega) dX7_readBounds_89 ?_
        rw [show (upd (upd tf 0 (-1)) 1 (-1)) 1 = (-1) from (upd_s _ _ _)]
        refine lv_iconst (v := (-1)) hx hb dX7_readBounds_90 (by decide) ?_
        refine lv_icmp_eq (tgt := 98) hx hb dX7_readBounds_91 (by decide) (fun c_91 => ?_) (fun c_91 => ?_)
        ·
          refine lv_iconst (v := nI 0) hx hb dX7_readBounds_98 (by decide) ?_
          have hpb : pbS f n i = (false, i + 1) := by simp only [pbS, thB, z0, (pS_t z0).1, y1, pS_f y1, Bool.false_eq_true, if_false, if_true]
          exact r_iret X hL rfl rfl dX7_readBounds_99 (by omega) (by omega) ⟨v_f (by rw [hpb]), ⟨_, _, by rw [hpb]; exact ⟨orr, art, oo, hbf⟩, fun h => absurd (show false = true from by rw [hpb] at h; exact h) (by decide)⟩, hC⟩
        ·
          exact absurd rfl c_91
      ·
        exact absurd rfl c_55
    ·
      have y1 := c_28
      rw [(pS_t y1).1] at orr hin
      refine lv_aload_n hx hb dX7_readBounds_31 rfl (lv_at hl 0 rfl) ?_
      refine lv_iconst (v := nI 0) hx hb dX7_readBounds_32 (by decide) ?_
      refine lv_bipush (v := nI 99) hx hb dX7_readBounds_33 (by decide) ?_
      refine Ct.callV (ct_X7_number l g PB f n (i + 1 + 1) w (if (pS f n i 48 51).1 then f i - nI 48 else -1) tf rd ta o st dq sl bf hs 0 99 hF hin (by omega) (by omega)) X hL hl vb_X7_number q959 (orr.recv hKV rfl) rfl rfl (Nat.le_of_ble_eq_true rfl) dX7_readBounds_35 ⟨Nat.le_of_ble_eq_true rfl, Nat.le_of_ble_eq_true rfl⟩ (by omega) (by omega) ⟨orr, art, oo, hbf⟩ (fun r H locs hL hp => ?_)
      obtain ⟨rfl, ⟨orr, art, oo, hbf⟩, hC1⟩ := hp
      have hC := hC.trans hC1
      rw [(nv_lo (f := f) (n := n) (i := i + 1 + 1) (t := 99) (by omega) (by omega)).1] at orr
      have hin := (pnS_b (f := f) (t := 99) hin).2
      refine lv_goto (tgt := 42) hx hb dX7_readBounds_38 (by decide) ?_
      refine r_ist X hL art lta 0 (nI_cl (by omega) rfl) (nI_nn (by omega) rfl) (by omega) dX7_readBounds_42 (fun H locs hL h1 h2 => ?_)
      have art : Ar g ta 0 4 (upd tf 0 (nvI f n 0 99 (i + 1 + 1))) H := h1
      have orr := orr.on h2 n1
      have oo := oo.on h2 (Ne.symm n3)
      have hbf := hbf.keep (h2.chg (P := fun q => q = rd ∨ q = ta) (Or.inr rfl)) hdj
      have hC := hC.trans (h2.chg (Or.inr rfl))
      refine lv_aload_n hx hb dX7_readBounds_43 rfl (lv_at hl 0 rfl) ?_
      refine r_get (C := RX7) (T := TX7) (N := 5) (ci := 6) X in_X7 rfl 3 (Nat.le_of_ble_eq_true rfl) q911 (fun _ h => h) orr rfl dX7_readBounds_44 ?_
      refine lv_iconst (v := nI 1) hx hb dX7_readBounds_47 (by decide) ?_
      refine lv_aload_n hx hb dX7_readBounds_48 rfl (lv_at hl 0 rfl) ?_
      refine r_get (C := RX7) (T := TX7) (N := 5) (ci := 6) X in_X7 rfl 3 (Nat.le_of_ble_eq_true rfl) q911 (fun _ h => h) orr rfl dX7_readBounds_49 ?_
      refine lv_iconst (v := nI 0) hx hb dX7_readBounds_52 (by decide) ?_
      refine r_ild X art 0 (nI_cl (by omega) rfl) (nI_nn (by omega) rfl) (by omega) dX7_readBounds_53 ?_
      rw [show (upd tf 0 (nvI f n 0 99 (i + 1 + 1))) 0 = (nvI f n 0 99 (i + 1 + 1)) from (upd_s _ _ _)]
      refine lv_iconst (v := (-1)) hx hb dX7_readBounds_54 (by decide) ?_
      refine lv_icmp_eq (tgt := 82) hx hb dX7_readBounds_55 (by decide) (fun c_55 => ?_) (fun c_55 => ?_)
      ·
        have z2 := nl_f (by omega) (by omega) c_55
        refine lv_iconst (v := (-1)) hx hb dX7_readBounds_82 (by decide) ?_
        refine r_ist X hL art lta 1 (nI_cl (by omega) rfl) (nI_nn (by omega) rfl) (by omega) dX7_readBounds_83 (fun H locs hL h1 h2 => ?_)
        have art : Ar g ta 0 4 (upd (upd tf 0 (nvI f n 0 99 (i + 1 + 1))) 1 (-1)) H := h1
        have orr := orr.on h2 n1
        have oo := oo.on h2 (Ne.symm n3)
        have hbf := hbf.keep (h2.chg (P := fun q => q = rd ∨ q = ta) (Or.inr rfl)) hdj
        have hC := hC.trans (h2.chg (Or.inr rfl))
        refine lv_aload_n hx hb dX7_readBounds_84 rfl (lv_at hl 0 rfl) ?_
        refine r_get (C := RX7) (T := TX7) (N := 5) (ci := 6) X in_X7 rfl 3 (Nat.le_of_ble_eq_true rfl) q911 (fun _ h => h) orr rfl dX7_readBounds_85 ?_
        refine lv_iconst (v := nI 1) hx hb dX7_readBounds_88 (by decide) ?_
        refine r_ild X art 1 (nI_cl (by omega) rfl) (nI_nn (by omega) rfl) (by omega) dX7_readBounds_89 ?_
        rw [show (upd (upd tf 0 (nvI f n 0 99 (i + 1 + 1))) 1 (-1)) 1 = (-1) from (upd_s _ _ _)]
        refine lv_iconst (v := (-1)) hx hb dX7_readBounds_90 (by decide) ?_
        refine lv_icmp_eq (tgt := 98) hx hb dX7_readBounds_91 (by decide) (fun c_91 => ?_) (fun c_91 => ?_)
        ·
          refine lv_iconst (v := nI 0) hx hb dX7_readBounds_98 (by decide) ?_
          have hpb : pbS f n i = (false, (pnS f n (i + 1 + 1) 99).2) := by simp only [pbS, thB, z0, (pS_t z0).1, y1, (pS_t y1).1, z2, Bool.false_eq_true, if_false, if_true]
          exact r_iret X hL rfl rfl dX7_readBounds_99 (by omega) (by omega) ⟨v_f (by rw [hpb]), ⟨_, _, by rw [hpb]; exact ⟨orr, art, oo, hbf⟩, fun h => absurd (show false = true from by rw [hpb] at h; exact h) (by decide)⟩, hC⟩
        ·
          exact absurd rfl c_91
      ·
        obtain ⟨z2, zv2⟩ := nl_t (by omega) (by omega) c_55
        obtain ⟨m1, hm1, hm2⟩ := nl_m (by omega) (by omega) c_55
        have hme : nbI f n (i + 1 + 1) 99 = nI m1 := zv2.symm.trans hm2
        refine lv_aload_n hx hb dX7_readBounds_58 rfl (lv_at hl 0 rfl) ?_
        refine lv_bipush (v := nI 45) hx hb dX7_readBounds_59 (by decide) ?_
        refine Ct.callV (ct_X7_isNext l g PB f n ((pnS f n (i + 1 + 1) 99).2) w (if (pS f n i 48 51).1 then f i - nI 48 else -1) (upd tf 0 (nvI f n 0 99 (i + 1 + 1))) rd ta o st dq sl bf hs 45 hF hin (by omega) (by omega)) X hL hl vb_X7_isNext q955 (orr.recv hKV rfl) rfl rfl (Nat.le_of_ble_eq_true rfl) dX7_readBounds_61 ⟨Nat.le_of_ble_eq_true rfl, Nat.le_of_ble_eq_true rfl⟩ (by omega) (by omega) ⟨orr, art, oo, hbf⟩ (fun r H locs hL hp => ?_)
        obtain ⟨rfl, ⟨orr, art, oo, hbf⟩, hC1⟩ := hp
        have hC := hC.trans hC1
        have hin := (pS_b (f := f) (a := 45) (b := 45) hin).2
        refine b_ifeq (tgt := 82) X dX7_readBounds_64 (by decide) (fun c_64 => ?_) (fun c_64 => ?_)
        ·
          have y3 := c_64
          rw [pS_f y3] at orr hin
          refine lv_iconst (v := (-1)) hx hb dX7_readBounds_82 (by decide) ?_
          refine r_ist X hL art lta 1 (nI_cl (by omega) rfl) (nI_nn (by omega) rfl) (by omega) dX7_readBounds_83 (fun H locs hL h1 h2 => ?_)
          have art : Ar g ta 0 4 (upd (upd tf 0 (nvI f n 0 99 (i + 1 + 1))) 1 (-1)) H := h1
          have orr := orr.on h2 n1
          have oo := oo.on h2 (Ne.symm n3)
          have hbf := hbf.keep (h2.chg (P := fun q => q = rd ∨ q = ta) (Or.inr rfl)) hdj
          have hC := hC.trans (h2.chg (Or.inr rfl))
          refine lv_aload_n hx hb dX7_readBounds_84 rfl (lv_at hl 0 rfl) ?_
          refine r_get (C := RX7) (T := TX7) (N := 5) (ci := 6) X in_X7 rfl 3 (Nat.le_of_ble_eq_true rfl) q911 (fun _ h => h) orr rfl dX7_readBounds_85 ?_
          refine lv_iconst (v := nI 1) hx hb dX7_readBounds_88 (by decide) ?_
          refine r_ild X art 1 (nI_cl (by omega) rfl) (nI_nn (by omega) rfl) (by omega) dX7_readBounds_89 ?_
          rw [show (upd (upd tf 0 (nvI f n 0 99 (i + 1 + 1))) 1 (-1)) 1 = (-1) from (upd_s _ _ _)]
          refine lv_iconst (v := (-1)) hx hb dX7_readBounds_90 (by decide) ?_
          refine lv_icmp_eq (tgt := 98) hx hb dX7_readBounds_91 (by decide) (fun c_91 => ?_) (fun c_91 => ?_)
          ·
            refine lv_iconst (v := nI 0) hx hb dX7_readBounds_98 (by decide) ?_
            have hpb : pbS f n i = (false, (pnS f n (i + 1 + 1) 99).2) := by simp only [pbS, thB, z0, (pS_t z0).1, y1, (pS_t y1).1, z2, y3, pS_f y3, Bool.false_eq_true, if_false, if_true]
            exact r_iret X hL rfl rfl dX7_readBounds_99 (by omega) (by omega) ⟨v_f (by rw [hpb]), ⟨_, _, by rw [hpb]; exact ⟨orr, art, oo, hbf⟩, fun h => absurd (show false = true from by rw [hpb] at h; exact h) (by decide)⟩, hC⟩
          ·
            exact absurd rfl c_91
        ·
          have y3 := c_64
          rw [(pS_t y3).1] at orr hin
          refine lv_aload_n hx hb dX7_readBounds_67 rfl (lv_at hl 0 rfl) ?_
          refine lv_aload_n hx hb dX7_readBounds_68 rfl (lv_at hl 0 rfl) ?_
          refine r_get (C := RX7) (T := TX7) (N := 5) (ci := 6) X in_X7 rfl 3 (Nat.le_of_ble_eq_true rfl) q911 (fun _ h => h) orr rfl dX7_readBounds_69 ?_
          refine lv_iconst (v := nI 0) hx hb dX7_readBounds_72 (by decide) ?_
          refine r_ild X art 0 (nI_cl (by omega) rfl) (nI_nn (by omega) rfl) (by omega) dX7_readBounds_73 ?_
          rw [show (upd tf 0 (nvI f n 0 99 (i + 1 + 1))) 0 = (nI m1) from ((upd_s _ _ _).trans hm2)]
          refine lv_bipush (v := nI 99) hx hb dX7_readBounds_74 (by decide) ?_
          refine Ct.callV (ct_X7_number l g PB f n ((pnS f n (i + 1 + 1) 99).2 + 1) w (if (pS f n i 48 51).1 then f i - nI 48 else -1) (upd tf 0 (nvI f n 0 99 (i + 1 + 1))) rd ta o st dq sl bf hs m1 99 hF hin (by omega) (by omega)) X hL hl vb_X7_number q959 (orr.recv hKV rfl) rfl rfl (Nat.le_of_ble_eq_true rfl) dX7_readBounds_76 ⟨Nat.le_of_ble_eq_true rfl, Nat.le_of_ble_eq_true rfl⟩ (by omega) (by omega) ⟨orr, art, oo, hbf⟩ (fun r H locs hL hp => ?_)
          obtain ⟨rfl, ⟨orr, art, oo, hbf⟩, hC1⟩ := hp
          have hC := hC.trans hC1
          rw [(nv_hi (f := f) (n := n) (i := (pnS f n (i + 1 + 1) 99).2 + 1) (t0 := m1) (by omega)).1, ← hme] at orr
          have hin := (pfS_b (f := f) (t := nbI f n (i + 1 + 1) 99) hin).2
          refine lv_goto (tgt := 83) hx hb dX7_readBounds_79 (by decide) ?_
          refine r_ist X hL art lta 1 (nI_cl (by omega) rfl) (nI_nn (by omega) rfl) (by omega) dX7_readBounds_83 (fun H locs hL h1 h2 => ?_)
          have art : Ar g ta 0 4 (upd (upd tf 0 (nvI f n 0 99 (i + 1 + 1))) 1 (nvI f n m1 99 ((pnS f n (i + 1 + 1) 99).2 + 1))) H := h1
          have orr := orr.on h2 n1
          have oo := oo.on h2 (Ne.symm n3)
          have hbf := hbf.keep (h2.chg (P := fun q => q = rd ∨ q = ta) (Or.inr rfl)) hdj
          have hC := hC.trans (h2.chg (Or.inr rfl))
          refine lv_aload_n hx hb dX7_readBounds_84 rfl (lv_at hl 0 rfl) ?_
          refine r_get (C := RX7) (T := TX7) (N := 5) (ci := 6) X in_X7 rfl 3 (Nat.le_of_ble_eq_true rfl) q911 (fun _ h => h) orr rfl dX7_readBounds_85 ?_
          refine lv_iconst (v := nI 1) hx hb dX7_readBounds_88 (by decide) ?_
          refine r_ild X art 1 (nI_cl (by omega) rfl) (nI_nn (by omega) rfl) (by omega) dX7_readBounds_89 ?_
          rw [show (upd (upd tf 0 (nvI f n 0 99 (i + 1 + 1))) 1 (nvI f n m1 99 ((pnS f n (i + 1 + 1) 99).2 + 1))) 1 = (nvI f n m1 99 ((pnS f n (i + 1 + 1) 99).2 + 1)) from (upd_s _ _ _)]
          refine lv_iconst (v := (-1)) hx hb dX7_readBounds_90 (by decide) ?_
          refine lv_icmp_eq (tgt := 98) hx hb dX7_readBounds_91 (by decide) (fun c_91 => ?_) (fun c_91 => ?_)
          ·
            have z4 := nh_f (by omega) c_91
            rw [← hme] at z4
            refine lv_iconst (v := nI 0) hx hb dX7_readBounds_98 (by decide) ?_
            have hpb : pbS f n i = (false, (pfS f n ((pnS f n (i + 1 + 1) 99).2 + 1) (nbI f n (i + 1 + 1) 99)).2) := by simp only [pbS, thB, z0, (pS_t z0).1, y1, (pS_t y1).1, z2, y3, (pS_t y3).1, if_true]; exact Prod.ext z4 rfl
            exact r_iret X hL rfl rfl dX7_readBounds_99 (by omega) (by omega) ⟨v_f (by rw [hpb]), ⟨_, _, by rw [hpb]; exact ⟨orr, art, oo, hbf⟩, fun h => absurd (show false = true from by rw [hpb] at h; exact h) (by decide)⟩, hC⟩
          ·
            obtain ⟨z4, zv4⟩ := nh_t (by omega) c_91
            rw [← hme] at z4 zv4
            refine lv_iconst (v := nI 1) hx hb dX7_readBounds_94 (by decide) ?_
            refine lv_goto (tgt := 99) hx hb dX7_readBounds_95 (by decide) ?_
            have hpb : pbS f n i = pfS f n ((pnS f n (i + 1 + 1) 99).2 + 1) (nbI f n (i + 1 + 1) 99) := by simp only [pbS, thB, z0, (pS_t z0).1, y1, (pS_t y1).1, z2, y3, (pS_t y3).1, if_true]; rfl
            exact r_iret X hL rfl rfl dX7_readBounds_99 (by omega) (by omega) ⟨v_t (by rw [hpb]; exact z4), ⟨_, _, by rw [hpb]; exact ⟨orr, art, oo, hbf⟩, fun _ => ⟨by rw [if_pos z0], by rw [upd_n _ _ (by decide), upd_s]; exact zv2, by rw [upd_s, hpb]; exact zv4⟩⟩, hC⟩
theorem vb_X7_readBounds : VB yX7_readBounds cX7_readBounds 1 (some .boolean) 0 := ⟨q983, qs19, q130, q984, ⟨by decide, by decide, by decide +kernel⟩⟩

/-- what a part read leaves for the state -/
def PartK (f : Nat → Int32) (n i : Nat) (w sd : Int32) (tf : Nat → Int32) : Prop :=
  (f i = nI 97 ∧ w = nI 97 ∧ tf 0 = nbI f n (i + 1) 99 ∧ tf 1 = nbI f n (a1N f n i + 1) 99 ∧ tf 2 = nbI f n (a1N f n (a1N f n i) + 1) 99 ∧ tf 3 = nbI f n (a1N f n (a1N f n (a1N f n i)) + 1) 99) ∨
  (f i = nI 114 ∧ w = nI 114 ∧ tf 0 = nbI f n (i + 1) 39) ∨
  (f i = nI 119 ∧ w = nI 119 ∧ sd = f (i + 1) - nI 48 ∧ tf 0 = wiI f i) ∨
  (f i = nI 98 ∧ w = nI 98 ∧ sd = f (i + 1) - nI 48 ∧ tf 0 = nbI f n (i + 3) 99 ∧ tf 1 = numI f (a1N f n (i + 2) + 1) ((ptS f n i).2 - (a1N f n (i + 2) + 1)))
theorem sg_at {f : Nat → Int32} {n i c : Nat} (hc : 33 ≤ c) (hc2 : c ≤ 126) (h : sgI f n i = nI c) : i < n ∧ f i = nI c := by
  have := sg_is hc hc2 h
  exact see_1.mp (by rw [this])

set_option maxRecDepth 100000 in
set_option maxHeartbeats 4000000 in
theorem ct_X7_readPart (l : Launch) (g : GT) (PB : Nat → Prop) (f : Nat → Int32) (n i : Nat) (w sd : Int32) (tf : Nat → Int32) (rd ta o st dq sl bf : Nat) (hs : Int64) (hF : RdF g PB rd ta o) (hin : i ≤ n) : Ct l g yX7_readPart cX7_readPart 1 (some .boolean) 9 0 0 [.ref rd] (RdX g PB f n i w sd tf rd ta o st dq sl bf hs) (fun r H H1 => r = some (.int (bI (ptS f n i).1)) ∧ (∃ w1 sd1 tf1, RdX g PB f n (ptS f n i).2 w1 sd1 tf1 rd ta o st dq sl bf hs H1 ∧ ((ptS f n i).1 = true → PartK f n i w1 sd1 tf1)) ∧ Chg (fun q => q = rd ∨ q = ta) H H1) := by
  refine Ct.of (by decide) (Nat.le_of_ble_eq_true rfl) ?_
  intro p e s m args below meth c X hP ls hl
  have hx := X.1
  have hb := X.2.1
  have hKV := X.2.2.2.2.2.2.2.1.1
  have hL : ∀ q ∈ ([] : List Loc), gLo g ≤ q.base := fun _ h => by cases h
  obtain ⟨orr, art, oo, hbf⟩ := hP
  obtain ⟨lrd, lta, n1, n2, n3, n4, n5⟩ := id hF
  have hl : lv_has ls 1 [(0, .ref rd)] := hl
  have hC : Chg (fun q => q = rd ∨ q = ta) s.heap s.heap := Chg.rfl'
  have hdj : ∀ q, PB q → ¬ (q = rd ∨ q = ta) := fun q hq z => z.elim (fun z => n4 (z ▸ hq)) (fun z => n5 (z ▸ hq))
  have hcr := hbf.chr
  refine lv_aload_n hx hb dX7_readPart_0 rfl (lv_at hl 0 rfl) ?_
  refine lv_aload_n hx hb dX7_readPart_1 rfl (lv_at hl 0 rfl) ?_
  refine Cp.callV (v := .int (sgI f n i)) (ct_X7_sign l g PB f n i w sd tf rd ta o st dq sl bf hs hF (by omega)) X hL hl vb_X7_sign q932 (orr.recv hKV rfl) rfl rfl (Nat.le_of_ble_eq_true rfl) dX7_readPart_2 ⟨Nat.le_of_ble_eq_true rfl, Nat.le_of_ble_eq_true rfl⟩ (by omega) (by omega) ⟨orr, art, oo, hbf⟩ (fun locs hL => ?_)
  refine r_put (C := RX7) (T := TX7) (N := 5) (ci := 6) X in_X7 tyX7 tyX7_ok nmX7 rfl 1 (Nat.le_of_ble_eq_true rfl) q909 (fun _ h => h) rfl hL orr lrd (sg_nw hcr.2 i) (sg_fits hcr.2 i) (Nat.le_of_ble_eq_true rfl) dX7_readPart_5 (fun H locs hL h1 h2 => ?_)
  have orr : Ob g rd 6 [.int (nI i), .int (sgI f n i), .int sd, .ref ta, .ref o] H := h1
  have art := art.on h2 (Ne.symm n1)
  have oo := oo.on h2 (Ne.symm n2)
  have hbf := hbf.keep (h2.chg (P := fun q => q = rd ∨ q = ta) (Or.inl rfl)) hdj
  have hC := hC.trans (h2.chg (Or.inl rfl))
  refine lv_aload_n hx hb dX7_readPart_8 rfl (lv_at hl 0 rfl) ?_
  refine lv_dup hx hb dX7_readPart_9 rfl ?_
  refine r_get (C := RX7) (T := TX7) (N := 5) (ci := 6) X in_X7 rfl 0 (Nat.le_of_ble_eq_true rfl) q907 (fun _ h => h) orr rfl dX7_readPart_10 ?_
  refine lv_aload_n hx hb dX7_readPart_13 rfl (lv_at hl 0 rfl) ?_
  refine r_get (C := RX7) (T := TX7) (N := 5) (ci := 6) X in_X7 rfl 1 (Nat.le_of_ble_eq_true rfl) q909 (fun _ h => h) orr rfl dX7_readPart_14 ?_
  refine lv_bipush (v := nI 97) hx hb dX7_readPart_17 (by decide) ?_
  refine lv_icmp_eq (tgt := 49) hx hb dX7_readPart_19 (by decide) (fun c_19 => ?_) (fun c_19 => ?_)
  ·
    refine lv_iconst (v := nI 1) hx hb dX7_readPart_49 (by decide) ?_
    refine lv_goto (tgt := 54) hx hb dX7_readPart_50 (by decide) ?_
    refine Cp.callSN (v := .int (nI 1)) (ct_X1_flag l g true ) X hL hl sb_X1_flag q950 rfl rfl (Nat.le_of_ble_eq_true rfl) dX7_readPart_54 ⟨Nat.le_of_ble_eq_true rfl, Nat.le_of_ble_eq_true rfl⟩ (by omega) (by omega) trivial (fun locs hL => ?_)
    refine n_iadd X dX7_readPart_57 ?_
    refine r_put (C := RX7) (T := TX7) (N := 5) (ci := 6) X in_X7 tyX7 tyX7_ok nmX7 rfl 0 (Nat.le_of_ble_eq_true rfl) q907 (fun _ h => h) rfl hL orr lrd rfl rfl (Nat.le_of_ble_eq_true rfl) dX7_readPart_58 (fun H locs hL h1 h2 => ?_)
    have orr : Ob g rd 6 [.int (nI (i + 1)), .int (sgI f n i), .int sd, .ref ta, .ref o] H := h1
    have art := art.on h2 (Ne.symm n1)
    have oo := oo.on h2 (Ne.symm n2)
    have hbf := hbf.keep (h2.chg (P := fun q => q = rd ∨ q = ta) (Or.inl rfl)) hdj
    have hC := hC.trans (h2.chg (Or.inl rfl))
    have hilt := ((sg_at (by decide) (by decide) (c_19))).1
    refine lv_aload_n hx hb dX7_readPart_61 rfl (lv_at hl 0 rfl) ?_
    refine r_get (C := RX7) (T := TX7) (N := 5) (ci := 6) X in_X7 rfl 1 (Nat.le_of_ble_eq_true rfl) q909 (fun _ h => h) orr rfl dX7_readPart_62 ?_
    refine lv_lookup (off := 35) (tgt := 100) hx hb dX7_readPart_65 (by decide) (by rw [c_19]; decide) (by decide) ?_
    refine lv_aload_n hx hb dX7_readPart_100 rfl (lv_at hl 0 rfl) ?_
    refine Ct.callV (ct_X7_readValues l g PB f n (i + 1) (sgI f n i) sd tf rd ta o st dq sl bf hs hF (by omega)) X hL hl vb_X7_readValues q951 (orr.recv hKV rfl) rfl rfl (Nat.le_of_ble_eq_true rfl) dX7_readPart_101 ⟨Nat.le_of_ble_eq_true rfl, Nat.le_of_ble_eq_true rfl⟩ (by omega) (by omega) ⟨orr, art, oo, hbf⟩ (fun r H locs hL hp => ?_)
    obtain ⟨rfl, ⟨sd1, tf1, ⟨orr, art, oo, hbf⟩, hv⟩, hC1⟩ := hp
    have hC := hC.trans hC1
    have hpt : ptS f n i = paS f n (i + 1) := by simp only [ptS, ifP, thB, sg_is (by decide) (by decide) (c_19), Bool.false_eq_true, if_false, if_true]
    exact r_iret X hL rfl (narrow_bI _) dX7_readPart_104 (by omega) (by omega) ⟨by rw [hpt], ⟨_, _, _, by rw [hpt]; exact ⟨orr, art, oo, hbf⟩, fun h => by rw [hpt] at h; exact Or.inl ⟨(sg_at (by decide) (by decide) (c_19)).2, c_19, hv h⟩⟩, hC⟩
  ·
    refine lv_aload_n hx hb dX7_readPart_22 rfl (lv_at hl 0 rfl) ?_
    refine r_get (C := RX7) (T := TX7) (N := 5) (ci := 6) X in_X7 rfl 1 (Nat.le_of_ble_eq_true rfl) q909 (fun _ h => h) orr rfl dX7_readPart_23 ?_
    refine lv_bipush (v := nI 114) hx hb dX7_readPart_26 (by decide) ?_
    refine lv_icmp_eq (tgt := 49) hx hb dX7_readPart_28 (by decide) (fun c_28 => ?_) (fun c_28 => ?_)
    ·
      refine lv_iconst (v := nI 1) hx hb dX7_readPart_49 (by decide) ?_
      refine lv_goto (tgt := 54) hx hb dX7_readPart_50 (by decide) ?_
      refine Cp.callSN (v := .int (nI 1)) (ct_X1_flag l g true ) X hL hl sb_X1_flag q950 rfl rfl (Nat.le_of_ble_eq_true rfl) dX7_readPart_54 ⟨Nat.le_of_ble_eq_true rfl, Nat.le_of_ble_eq_true rfl⟩ (by omega) (by omega) trivial (fun locs hL => ?_)
      refine n_iadd X dX7_readPart_57 ?_
      refine r_put (C := RX7) (T := TX7) (N := 5) (ci := 6) X in_X7 tyX7 tyX7_ok nmX7 rfl 0 (Nat.le_of_ble_eq_true rfl) q907 (fun _ h => h) rfl hL orr lrd rfl rfl (Nat.le_of_ble_eq_true rfl) dX7_readPart_58 (fun H locs hL h1 h2 => ?_)
      have orr : Ob g rd 6 [.int (nI (i + 1)), .int (sgI f n i), .int sd, .ref ta, .ref o] H := h1
      have art := art.on h2 (Ne.symm n1)
      have oo := oo.on h2 (Ne.symm n2)
      have hbf := hbf.keep (h2.chg (P := fun q => q = rd ∨ q = ta) (Or.inl rfl)) hdj
      have hC := hC.trans (h2.chg (Or.inl rfl))
      have hilt := ((sg_at (by decide) (by decide) (c_28))).1
      refine lv_aload_n hx hb dX7_readPart_61 rfl (lv_at hl 0 rfl) ?_
      refine r_get (C := RX7) (T := TX7) (N := 5) (ci := 6) X in_X7 rfl 1 (Nat.le_of_ble_eq_true rfl) q909 (fun _ h => h) orr rfl dX7_readPart_62 ?_
      refine lv_lookup (off := 40) (tgt := 105) hx hb dX7_readPart_65 (by decide) (by rw [c_28]; decide) (by decide) ?_
      refine lv_aload_n hx hb dX7_readPart_105 rfl (lv_at hl 0 rfl) ?_
      refine Ct.callV (ct_X7_readOffer l g PB f n (i + 1) (sgI f n i) sd tf rd ta o st dq sl bf hs hF (by omega)) X hL hl vb_X7_readOffer q969 (orr.recv hKV rfl) rfl rfl (Nat.le_of_ble_eq_true rfl) dX7_readPart_106 ⟨Nat.le_of_ble_eq_true rfl, Nat.le_of_ble_eq_true rfl⟩ (by omega) (by omega) ⟨orr, art, oo, hbf⟩ (fun r H locs hL hp => ?_)
      obtain ⟨rfl, ⟨sd1, tf1, ⟨orr, art, oo, hbf⟩, hv⟩, hC1⟩ := hp
      have hC := hC.trans hC1
      have hpt : ptS f n i = pnS f n (i + 1) 39 := by simp only [ptS, ifP, thB, sg_no c_19, sg_is (by decide) (by decide) (c_28), Bool.false_eq_true, if_false, if_true]
      exact r_iret X hL rfl (narrow_bI _) dX7_readPart_109 (by omega) (by omega) ⟨by rw [hpt], ⟨_, _, _, by rw [hpt]; exact ⟨orr, art, oo, hbf⟩, fun h => by rw [hpt] at h; exact Or.inr (Or.inl ⟨(sg_at (by decide) (by decide) (c_28)).2, c_28, hv h⟩)⟩, hC⟩
    ·
      refine lv_aload_n hx hb dX7_readPart_31 rfl (lv_at hl 0 rfl) ?_
      refine r_get (C := RX7) (T := TX7) (N := 5) (ci := 6) X in_X7 rfl 1 (Nat.le_of_ble_eq_true rfl) q909 (fun _ h => h) orr rfl dX7_readPart_32 ?_
      refine lv_bipush (v := nI 119) hx hb dX7_readPart_35 (by decide) ?_
      refine lv_icmp_eq (tgt := 49) hx hb dX7_readPart_37 (by decide) (fun c_37 => ?_) (fun c_37 => ?_)
      ·
        refine lv_iconst (v := nI 1) hx hb dX7_readPart_49 (by decide) ?_
        refine lv_goto (tgt := 54) hx hb dX7_readPart_50 (by decide) ?_
        refine Cp.callSN (v := .int (nI 1)) (ct_X1_flag l g true ) X hL hl sb_X1_flag q950 rfl rfl (Nat.le_of_ble_eq_true rfl) dX7_readPart_54 ⟨Nat.le_of_ble_eq_true rfl, Nat.le_of_ble_eq_true rfl⟩ (by omega) (by omega) trivial (fun locs hL => ?_)
        refine n_iadd X dX7_readPart_57 ?_
        refine r_put (C := RX7) (T := TX7) (N := 5) (ci := 6) X in_X7 tyX7 tyX7_ok nmX7 rfl 0 (Nat.le_of_ble_eq_true rfl) q907 (fun _ h => h) rfl hL orr lrd rfl rfl (Nat.le_of_ble_eq_true rfl) dX7_readPart_58 (fun H locs hL h1 h2 => ?_)
        have orr : Ob g rd 6 [.int (nI (i + 1)), .int (sgI f n i), .int sd, .ref ta, .ref o] H := h1
        have art := art.on h2 (Ne.symm n1)
        have oo := oo.on h2 (Ne.symm n2)
        have hbf := hbf.keep (h2.chg (P := fun q => q = rd ∨ q = ta) (Or.inl rfl)) hdj
        have hC := hC.trans (h2.chg (Or.inl rfl))
        have hilt := ((sg_at (by decide) (by decide) (c_37))).1
        refine lv_aload_n hx hb dX7_readPart_61 rfl (lv_at hl 0 rfl) ?_
        refine r_get (C := RX7) (T := TX7) (N := 5) (ci := 6) X in_X7 rfl 1 (Nat.le_of_ble_eq_true rfl) q909 (fun _ h => h) orr rfl dX7_readPart_62 ?_
        refine lv_lookup (off := 45) (tgt := 110) hx hb dX7_readPart_65 (by decide) (by rw [c_37]; decide) (by decide) ?_
        refine lv_aload_n hx hb dX7_readPart_110 rfl (lv_at hl 0 rfl) ?_
        refine Ct.callV (ct_X7_readWish l g PB f n (i + 1) (sgI f n i) sd tf rd ta o st dq sl bf hs hF (by omega)) X hL hl vb_X7_readWish q973 (orr.recv hKV rfl) rfl rfl (Nat.le_of_ble_eq_true rfl) dX7_readPart_111 ⟨Nat.le_of_ble_eq_true rfl, Nat.le_of_ble_eq_true rfl⟩ (by omega) (by omega) ⟨orr, art, oo, hbf⟩ (fun r H locs hL hp => ?_)
        obtain ⟨rfl, ⟨sd1, tf1, ⟨orr, art, oo, hbf⟩, hv⟩, hC1⟩ := hp
        have hC := hC.trans hC1
        have hpt : ptS f n i = pwS f n (i + 1) := by simp only [ptS, ifP, thB, sg_no c_19, sg_no c_28, sg_is (by decide) (by decide) (c_37), Bool.false_eq_true, if_false, if_true]
        exact r_iret X hL rfl (narrow_bI _) dX7_readPart_114 (by omega) (by omega) ⟨by rw [hpt], ⟨_, _, _, by rw [hpt]; exact ⟨orr, art, oo, hbf⟩, fun h => by rw [hpt] at h; exact Or.inr (Or.inr (Or.inl ⟨(sg_at (by decide) (by decide) (c_37)).2, c_37, hv h⟩))⟩, hC⟩
      ·
        refine lv_aload_n hx hb dX7_readPart_40 rfl (lv_at hl 0 rfl) ?_
        refine r_get (C := RX7) (T := TX7) (N := 5) (ci := 6) X in_X7 rfl 1 (Nat.le_of_ble_eq_true rfl) q909 (fun _ h => h) orr rfl dX7_readPart_41 ?_
        refine lv_bipush (v := nI 98) hx hb dX7_readPart_44 (by decide) ?_
        refine lv_icmp_ne (tgt := 53) hx hb dX7_readPart_46 (by decide) (fun c_46 => ?_) (fun c_46 => ?_)
        ·
          refine lv_iconst (v := nI 0) hx hb dX7_readPart_53 (by decide) ?_
          refine Cp.callSN (v := .int (nI 0)) (ct_X1_flag l g false ) X hL hl sb_X1_flag q950 rfl rfl (Nat.le_of_ble_eq_true rfl) dX7_readPart_54 ⟨Nat.le_of_ble_eq_true rfl, Nat.le_of_ble_eq_true rfl⟩ (by omega) (by omega) trivial (fun locs hL => ?_)
          refine n_iadd X dX7_readPart_57 ?_
          refine r_put (C := RX7) (T := TX7) (N := 5) (ci := 6) X in_X7 tyX7 tyX7_ok nmX7 rfl 0 (Nat.le_of_ble_eq_true rfl) q907 (fun _ h => h) rfl hL orr lrd rfl rfl (Nat.le_of_ble_eq_true rfl) dX7_readPart_58 (fun H locs hL h1 h2 => ?_)
          have orr : Ob g rd 6 [.int (nI (i + 0)), .int (sgI f n i), .int sd, .ref ta, .ref o] H := h1
          have art := art.on h2 (Ne.symm n1)
          have oo := oo.on h2 (Ne.symm n2)
          have hbf := hbf.keep (h2.chg (P := fun q => q = rd ∨ q = ta) (Or.inl rfl)) hdj
          have hC := hC.trans (h2.chg (Or.inl rfl))
          refine lv_aload_n hx hb dX7_readPart_61 rfl (lv_at hl 0 rfl) ?_
          refine r_get (C := RX7) (T := TX7) (N := 5) (ci := 6) X in_X7 rfl 1 (Nat.le_of_ble_eq_true rfl) q909 (fun _ h => h) orr rfl dX7_readPart_62 ?_
          refine lv_lookup (off := 50) (tgt := 115) hx hb dX7_readPart_65 (by decide) ((lv_osw (k := nI 97) c_19 (by decide)).trans ((lv_osw (k := nI 114) c_28 (by decide)).trans ((lv_osw (k := nI 119) c_37 (by decide)).trans rfl))) (by decide) ?_
          refine lv_aload_n hx hb dX7_readPart_115 rfl (lv_at hl 0 rfl) ?_
          refine r_get (C := RX7) (T := TX7) (N := 5) (ci := 6) X in_X7 rfl 1 (Nat.le_of_ble_eq_true rfl) q909 (fun _ h => h) orr rfl dX7_readPart_116 ?_
          refine lv_bipush (v := nI 98) hx hb dX7_readPart_119 (by decide) ?_
          refine lv_icmp_ne (tgt := 135) hx hb dX7_readPart_121 (by decide) (fun c_121 => ?_) (fun c_121 => ?_)
          ·
            refine lv_iconst (v := nI 0) hx hb dX7_readPart_135 (by decide) ?_
            have hpt : ptS f n i = (false, i) := by simp only [ptS, ifP, thB, sg_no c_19, sg_no c_28, sg_no c_37, sg_no c_46, Bool.false_eq_true, if_false, if_true]
            exact r_iret X hL rfl rfl dX7_readPart_136 (by omega) (by omega) ⟨v_f (by rw [hpt]), ⟨_, _, _, by rw [hpt]; exact ⟨orr, art, oo, hbf⟩, fun h => absurd (show false = true from by rw [hpt] at h; exact h) (by decide)⟩, hC⟩
          ·
            exact absurd c_121 c_46
        ·
          refine lv_iconst (v := nI 1) hx hb dX7_readPart_49 (by decide) ?_
          refine lv_goto (tgt := 54) hx hb dX7_readPart_50 (by decide) ?_
          refine Cp.callSN (v := .int (nI 1)) (ct_X1_flag l g true ) X hL hl sb_X1_flag q950 rfl rfl (Nat.le_of_ble_eq_true rfl) dX7_readPart_54 ⟨Nat.le_of_ble_eq_true rfl, Nat.le_of_ble_eq_true rfl⟩ (by omega) (by omega) trivial (fun locs hL => ?_)
          refine n_iadd X dX7_readPart_57 ?_
          refine r_put (C := RX7) (T := TX7) (N := 5) (ci := 6) X in_X7 tyX7 tyX7_ok nmX7 rfl 0 (Nat.le_of_ble_eq_true rfl) q907 (fun _ h => h) rfl hL orr lrd rfl rfl (Nat.le_of_ble_eq_true rfl) dX7_readPart_58 (fun H locs hL h1 h2 => ?_)
          have orr : Ob g rd 6 [.int (nI (i + 1)), .int (sgI f n i), .int sd, .ref ta, .ref o] H := h1
          have art := art.on h2 (Ne.symm n1)
          have oo := oo.on h2 (Ne.symm n2)
          have hbf := hbf.keep (h2.chg (P := fun q => q = rd ∨ q = ta) (Or.inl rfl)) hdj
          have hC := hC.trans (h2.chg (Or.inl rfl))
          have hilt := ((sg_at (by decide) (by decide) (c_46))).1
          refine lv_aload_n hx hb dX7_readPart_61 rfl (lv_at hl 0 rfl) ?_
          refine r_get (C := RX7) (T := TX7) (N := 5) (ci := 6) X in_X7 rfl 1 (Nat.le_of_ble_eq_true rfl) q909 (fun _ h => h) orr rfl dX7_readPart_62 ?_
          refine lv_lookup (off := 50) (tgt := 115) hx hb dX7_readPart_65 (by decide) (by rw [c_46]; decide) (by decide) ?_
          refine lv_aload_n hx hb dX7_readPart_115 rfl (lv_at hl 0 rfl) ?_
          refine r_get (C := RX7) (T := TX7) (N := 5) (ci := 6) X in_X7 rfl 1 (Nat.le_of_ble_eq_true rfl) q909 (fun _ h => h) orr rfl dX7_readPart_116 ?_
          refine lv_bipush (v := nI 98) hx hb dX7_readPart_119 (by decide) ?_
          refine lv_icmp_ne (tgt := 135) hx hb dX7_readPart_121 (by decide) (fun c_121 => ?_) (fun c_121 => ?_)
          ·
            exact absurd c_46 c_121
          ·
            refine lv_aload_n hx hb dX7_readPart_124 rfl (lv_at hl 0 rfl) ?_
            refine Ct.callV (ct_X7_readBounds l g PB f n (i + 1) (sgI f n i) sd tf rd ta o st dq sl bf hs hF (by omega)) X hL hl vb_X7_readBounds q981 (orr.recv hKV rfl) rfl rfl (Nat.le_of_ble_eq_true rfl) dX7_readPart_125 ⟨Nat.le_of_ble_eq_true rfl, Nat.le_of_ble_eq_true rfl⟩ (by omega) (by omega) ⟨orr, art, oo, hbf⟩ (fun r H locs hL hp => ?_)
            obtain ⟨rfl, ⟨sd1, tf1, ⟨orr, art, oo, hbf⟩, hv⟩, hC1⟩ := hp
            have hC := hC.trans hC1
            refine b_ifeq (tgt := 135) X dX7_readPart_128 (by decide) (fun c_128 => ?_) (fun c_128 => ?_)
            ·
              refine lv_iconst (v := nI 0) hx hb dX7_readPart_135 (by decide) ?_
              have hpt : ptS f n i = pbS f n (i + 1) := by simp only [ptS, ifP, thB, sg_no c_19, sg_no c_28, sg_no c_37, sg_is (by decide) (by decide) (c_46), Bool.false_eq_true, if_false, if_true]
              exact r_iret X hL rfl rfl dX7_readPart_136 (by omega) (by omega) ⟨v_f (by rw [hpt]; exact c_128), ⟨_, _, _, by rw [hpt]; exact ⟨orr, art, oo, hbf⟩, fun h => absurd h (by rw [hpt, c_128]; decide)⟩, hC⟩
            ·
              refine lv_iconst (v := nI 1) hx hb dX7_readPart_131 (by decide) ?_
              refine lv_goto (tgt := 136) hx hb dX7_readPart_132 (by decide) ?_
              have hpt : ptS f n i = pbS f n (i + 1) := by simp only [ptS, ifP, thB, sg_no c_19, sg_no c_28, sg_no c_37, sg_is (by decide) (by decide) (c_46), Bool.false_eq_true, if_false, if_true]
              exact r_iret X hL rfl rfl dX7_readPart_136 (by omega) (by omega) ⟨v_t (by rw [hpt]; exact c_128), ⟨_, _, _, by rw [hpt]; exact ⟨orr, art, oo, hbf⟩, fun h => Or.inr (Or.inr (Or.inr ⟨(sg_at (by decide) (by decide) (c_46)).2, c_46, (hv c_128).1, (hv c_128).2.1, by rw [hpt]; exact (hv c_128).2.2⟩))⟩, hC⟩
theorem vb_X7_readPart : VB yX7_readPart cX7_readPart 1 (some .boolean) 0 := ⟨q929, q930, q130, q931, ⟨by decide, by decide, by decide +kernel⟩⟩
