/-! a bag that is filled while others stand -/
def QX (b al z : Nat) : Nat → Prop := fun q => q = b ∨ q = al ∨ z ≤ q
theorem LstR.bnd {g : GT} {P : Nat → Prop} {x : Nat → Nat} {n a : Nat} {H : Heap} (h : LstR g P x n a H) : LstR g (fun q => P q ∧ q < H.size) x n a H := by
  obtain ⟨m, ar, cap, f, h1, h2, h3, h4, h5, h6, h7, h8, h9⟩ := h
  exact ⟨m, ar, cap, f, ⟨h1, h3.lt⟩, h2, h3, h4, h5, h6, h7, h8, h9.imp (fun z => z) (fun z => ⟨⟨z.1, h4.lt⟩, z.2⟩)⟩
theorem BagR.bnd {g : GT} {P : Nat → Prop} {x : Nat → Nat} {n a : Nat} {H : Heap} (h : BagR g P x n a H) : BagR g (fun q => P q ∧ q < H.size) x n a H := by
  obtain ⟨al, h1, h2, h4, h5⟩ := h
  exact ⟨al, ⟨h1, h4.lt⟩, h2, h4, h5.bnd.to (fun _ _ => rfl) (fun q hq => ⟨⟨hq.1.1, hq.2⟩, hq.1.2⟩)⟩
theorem LstK.mem {g : GT} {P : Nat → Prop} {x : Nat → Nat} {n cap a : Nat} {H : Heap} (h : LstK g P x n cap a H) : P a ∧ a < H.size := by
  obtain ⟨m, ar, f, h1, h2, h3, h4⟩ := h; exact ⟨h1, h3.lt⟩
theorem LstK.re0 {g : GT} {P Q : Nat → Prop} {x : Nat → Nat} {n a : Nat} {H : Heap} (h : LstK g P x n 0 a H) (hQ : Q a) : LstK g Q x n 0 a H := by
  obtain ⟨m, ar, f, h1, h2, h3, h4, h5, h6, h7, h8, h9⟩ := h
  exact ⟨m, ar, f, hQ, h2, h3, h4, h5, h6, h7, h8, Or.inl (h9.resolve_right (fun z => absurd z.2.2 (Nat.lt_irrefl _)))⟩
theorem Ext.chgx {H0 H1 H2 : Heap} {P : Nat → Prop} (e : Ext H0 H1) (c : Chg P H1 H2) (d : ∀ q, P q → H0.size ≤ q) : Ext H0 H2 := ⟨Nat.le_trans e.1 c.1, fun q hq => (c.2 q (Nat.lt_of_lt_of_le hq e.1) (fun z => absurd (d q z) (Nat.not_le_of_lt hq))).trans (e.2 q hq)⟩
theorem OfL.lt {g : GT} {ro : Nat → Int32} {x : Nat → Nat} {L : List Nat} {H : Heap} (h : OfL g ro x L H) {i : Nat} (hi : i ∈ L) : x i < H.size := (h i hi).lt
theorem OfL.elr {g : GT} {ro : Nat → Int32} {x : Nat → Nat} {L : List Nat} {H : Heap} {P : Nat → Prop} (h : OfL g ro x L H) (d : ∀ i, i ∈ L → ¬ P (x i)) : ElR g P (XL x L) L.length H := h.el.el d
/-! the state: by sums, the window, rows -/
theorem sum_le (ro : Nat → Int32) (R : List Nat) (k : Nat) : (sumL ro (R.take k)).length ≤ k := by
  have : ∀ L : List Nat, (sumL ro L).length ≤ L.length := by
    intro L
    have h : ∀ (L A : List Nat), (L.foldl (fun T i => if !isBt ro (nI 15) T i then T ++ [i] else T) A).length ≤ A.length + L.length := by
      intro L
      induction L with
      | nil => intro A; simp
      | cons y L ih =>
        intro A
        rw [List.foldl_cons]
        refine Nat.le_trans (ih _) ?_
        split <;> simp <;> omega
    have := h L []
    simpa [sumL] using this
  exact Nat.le_trans (this _) (take_le R k)
theorem sum_sub {ro : Nat → Int32} {R : List Nat} {k i : Nat} (h : i ∈ sumL ro (R.take k)) : i ∈ R := by
  have : ∀ (L A : List Nat), i ∈ L.foldl (fun T i => if !isBt ro (nI 15) T i then T ++ [i] else T) A → i ∈ A ∨ i ∈ L := by
    intro L
    induction L with
    | nil => intro A h; exact Or.inl h
    | cons y L ih =>
      intro A h
      rw [List.foldl_cons] at h
      rcases ih _ h with h | h
      · split at h
        · rcases List.mem_append.mp h with h | h
          · exact Or.inl h
          · rw [List.mem_singleton] at h; subst h; exact Or.inr (List.mem_cons_self ..)
        · exact Or.inl h
      · exact Or.inr (List.mem_cons_of_mem _ h)
  rcases this _ [] h with h | h
  · cases h
  · exact List.mem_of_mem_take h
theorem sum_t {ro : Nat → Int32} {R : List Nat} {k : Nat} (h : k < R.length) (c : btV ro (nI 15) (sumL ro (R.take k)) (mv ro (R.getD k 0)) = false) : sumL ro (R.take (k + 1)) = sumL ro (R.take k) ++ [R.getD k 0] := by
  rw [take_app h, sum_step, show isBt ro (nI 15) (sumL ro (R.take k)) (R.getD k 0) = false from c]; rfl
theorem sum_f {ro : Nat → Int32} {R : List Nat} {k : Nat} (h : k < R.length) (c : btV ro (nI 15) (sumL ro (R.take k)) (mv ro (R.getD k 0)) = true) : sumL ro (R.take (k + 1)) = sumL ro (R.take k) := by
  rw [take_app h, sum_step, show isBt ro (nI 15) (sumL ro (R.take k)) (R.getD k 0) = true from c]; rfl

set_option maxRecDepth 100000 in
set_option maxHeartbeats 4000000 in
theorem ct_X2_bySums (l : Launch) (g : GT) (ro : Nat → Int32) (n : Nat) (x : Nat → Nat) (a : Nat) (hn : n ≤ 40) (hw : WO (mw ro)) : Ct l g yX2_bySums cX2_bySums 4 (some .int) 14 40 640 [.ref a] (fun H => StQ g ro n x a H) (fun r H H1 => r = some (.int (nI (sumL ro (ordL (ahS (smR ro)) (actL ro n))).length)) ∧ Ext H H1) := by
  refine Ct.ofN (by decide) (Nat.le_of_ble_eq_true rfl) ?_
  intro p e s m args below meth c X hnm hP ls hl
  have hx := X.1
  have hb := X.2.1
  have hKV := X.2.2.2.2.2.2.2.1.1
  have hL : ∀ q ∈ ([] : List Loc), gLo g ≤ q.base := fun _ h => by cases h
  have hst := hP
  have hst9 := hst
  obtain ⟨sb, sd, PB, PS, ob, hbg, hsd, hof, hinj⟩ := hst9
  have hl : lv_has ls 4 [(0, .ref a)] := hl
  have hrl : (List.range n).length ≤ 40 := by rw [rng_len]; exact hn
  have hE : Ext s.heap s.heap := Ext.rfl'
  have ob0 := ob
  have hst0 := hst
  have hof0 := hof
  have hbg0 := hbg
  have hsd0 := hsd
  refine lv_aload_n hx hb dX2_bySums_0 rfl (lv_at hl 0 rfl) ?_
  refine Ct.callV (ct_X2_active l g ro n x a hn) X hL hl vb_X2_active q527 (hst.recv hKV) rfl rfl (Nat.le_of_ble_eq_true rfl) dX2_bySums_1 ⟨Nat.le_of_ble_eq_true rfl, Nat.le_of_ble_eq_true rfl⟩ (by omega) (by omega) hst (fun r H locs hL hp => ?_)
  obtain ⟨bb, hbb, rfl, hE1⟩ := hp
  have ob := ob.ext hE1
  have hst := hst.ext hE1
  have hof := hof.ext hE1
  have hbg := hbg.ext hE1
  have hsd := hsd.ext hE1
  have hE := hE.trans hE1
  have hqbb : BgQ g x (actL ro n) bb H := ⟨_, hbb⟩
  have hla : (actL ro n).length ≤ 40 := act_len hn
  have hofa : OfL g ro x (actL ro n) H := hof.sub (fun i hi => act_in hi)
  refine lv_aload_n hx hb dX2_bySums_4 rfl (lv_at hl 0 rfl) ?_
  obtain ⟨b1, hb1⟩ : ∃ b, H.size = b := ⟨_, rfl⟩
  have sz_b1 : s.heap.size ≤ b1 := by rw [← hb1]; exact hE.1
  have lo_b1 : gLo g ≤ b1 := Nat.le_trans X.2.2.2.2.2.2.2.1.2.1 sz_b1
  have ne_a_b1 : a ≠ b1 := Nat.ne_of_lt (by rw [← hb1]; exact ob.lt)
  refine r_indy (k := 4) (σ := lm4s) X hnm hl lm4q [.ref a] [.object "OfferSky$State"] (lm4 hKV X.2.2.2.2.1).1.2 rfl rfl rfl (by intro i t v h1 h2; rcases i with _ | _ | _ | i <;> simp at h1 h2 <;> (try (subst h1; subst h2; rfl))) rfl (Nat.le_of_ble_eq_true rfl) (by show _ + 1 ≤ 40; omega) (by show _ + 1 ≤ 640; omega) dX2_bySums_5 (fun H ha_b1 hE_b1 hz_b1 => ?_)
  rw [hb1] at ha_b1 hz_b1 ⊢
  have ob := ob.ext hE_b1
  have hbg := hbg.ext hE_b1
  have hst := hst.ext hE_b1
  have hof := hof.ext hE_b1
  have hsd := hsd.ext hE_b1
  have hbb := hbb.ext hE_b1
  have hqbb := hqbb.ext hE_b1
  have hofa := hofa.ext hE_b1
  rw [show ([.ref a] : List Value).length = 1 from rfl]
  have hE := hE.trans hE_b1
  refine Ct.callV (ct_X3_ordered l g _ x (actL ro n) bb b1 (ahS (smR ro)) hla) X hL hl vb_X3_ordered q1023 (hbb.recv hKV) rfl rfl (Nat.le_of_ble_eq_true rfl) dX2_bySums_10 ⟨Nat.le_of_ble_eq_true rfl, Nat.le_of_ble_eq_true rfl⟩ (by omega) (by omega) ⟨hbb, hofa.el, fun i j hi hj H1 hE1 => ru_4 (ha_b1.ext hE1) hw (hst.sd.ext hE1) ((hofa i hi).ext hE1) ((hofa j hj).ext hE1)⟩ (fun r H locs hL hp => ?_)
  obtain ⟨rb, hrb, rfl, hE1⟩ := hp
  have ob := ob.ext hE1
  have hst := hst.ext hE1
  have hof := hof.ext hE1
  have hbg := hbg.ext hE1
  have hsd := hsd.ext hE1
  have hE := hE.trans hE1
  have hrb := hrb.bnd
  have hrn : (ordL (ahS (smR ro)) (actL ro n)).length ≤ 40 := by rw [(ord_perm _ _).length_eq]; exact hla
  have hofr0 : OfL g ro x (ordL (ahS (smR ro)) (actL ro n)) s.heap := hof0.sub (fun i hi => act_in ((ord_perm _ _).mem_iff.mp hi))
  refine lv_astore_n (lv' := [(1, .ref _), (0, .ref _)]) hx hb dX2_bySums_13 rfl hl (by decide) rfl (fun ls hl => ?_)
  obtain ⟨b2, hb2⟩ : ∃ b, H.size = b := ⟨_, rfl⟩
  have sz_b2 : s.heap.size ≤ b2 := by rw [← hb2]; exact hE.1
  have lo_b2 : gLo g ≤ b2 := Nat.le_trans X.2.2.2.2.2.2.2.1.2.1 sz_b2
  have ne_a_b2 : a ≠ b2 := Nat.ne_of_lt (by rw [← hb2]; exact ob.lt)
  refine r_new (C := RX3) (T := TX3) (N := 1) (ci := 3) X in_X3 tyX3 tyX3_ok q146 q147 q101 rfl (fs := [.null]) (fun j hj => by rcases j with _ | _ | _ | _ | _ | j <;> first | rfl | omega) (by show _ + 1 ≤ 40; omega) (by show _ + 1 ≤ 640; omega) dX2_bySums_14 (fun H ha_b2 hE_b2 hz_b2 => ?_)
  rw [hb2] at ha_b2 hz_b2 ⊢
  have ob := ob.ext hE_b2
  have hbg := hbg.ext hE_b2
  have hst := hst.ext hE_b2
  have hof := hof.ext hE_b2
  have hsd := hsd.ext hE_b2
  have hrb := hrb.ext hE_b2
  have hE := hE.trans hE_b2
  refine lv_dup hx hb dX2_bySums_17 rfl ?_
  refine Ct.callIN (ct_X3_init l g (fun q => b2 ≤ q) b2 (Nat.le_refl _) lo_b2) X hL hl ib_X3_init q148 rfl rfl (Nat.le_of_ble_eq_true rfl) dX2_bySums_18 ⟨Nat.le_of_ble_eq_true rfl, Nat.le_of_ble_eq_true rfl⟩ (by omega) (by omega) ⟨ha_b2, fun q hq => by have := hz_b2; omega⟩ (fun r H4 locs hL hp => ?_)
  obtain ⟨al, rfl, ha_b2, hK0, hC1⟩ := hp
  have hE := hE.chgx hC1 (fun q hq => Nat.le_trans sz_b2 hq)
  have hKm := (hK0 (XL x [])).mem
  have hK := (hK0 (XL x [])).re0 (Q := (fun q => QX b2 al H4.size q ∧ q ≠ b2)) ⟨Or.inr (Or.inl rfl), hKm.1.2⟩
  have hal := hKm.1
  have hala := hKm.2
  have hbz := ha_b2.lt
  have hgE := hKV.gE
  have ob := ob0.ext hE
  have hst := hst0.ext hE
  have hof := hof0.ext hE
  have hbg := hbg0.ext hE
  have hsd := hsd0.ext hE
  have hrb := hrb.keep hC1 (fun q hq => by have := hq.2; omega) (by omega)
  have hE4 := hE
  have hQs : ∀ q, QX b2 al H4.size q → s.heap.size ≤ q := fun q hq => by unfold QX at hq; have := hE.1; omega
  have hQE : ¬ QX b2 al H4.size (gE g) := fun z => by unfold QX at z; have := lo_b2; omega
  have hCr : Chg (QX b2 al H4.size) H4 H4 := Chg.rfl'
  have hrb4 := hrb
  refine lv_astore_n (lv' := [(2, .ref _), (1, .ref _), (0, .ref _)]) hx hb dX2_bySums_21 rfl hl (by decide) rfl (fun ls hl => ?_)
  refine lv_iconst (v := nI 0) hx hb dX2_bySums_22 (by decide) ?_
  refine lv_istore_n (lv' := [(3, .int _), (2, .ref _), (1, .ref _), (0, .ref _)]) hx hb dX2_bySums_23 rfl hl (by decide) rfl (fun ls hl => ?_)
  have L24 : ∀ (fuel : Nat) (k cap u v : Nat), (ordL (ahS (smR ro)) (actL ro n)).length - k < fuel → (k ≤ (ordL (ahS (smR ro)) (actL ro n)).length) → (CapR cap u v) → ∀ (H : Heap), Ob g b2 3 [.ref al] H → LstK g (fun q => QX b2 al H4.size q ∧ q ≠ b2) (XL x (sumL ro ((ordL (ahS (smR ro)) (actL ro n)).take k))) (sumL ro ((ordL (ahS (smR ro)) (actL ro n)).take k)).length cap al H → Chg (QX b2 al H4.size) H4 H → ∀ (locs : List Loc), (∀ q ∈ locs, gLo g ≤ q.base) → ∀ (ls : Array Slot), lv_has ls 4 [(0, .ref a), (1, .ref rb), (2, .ref b2), (3, .int (nI k))] → W p l e (rmL 14 40 640) s m args below meth c H locs (30 + u) (500 + v) (MQ below (Qcg (fun r H H1 => r = some (.int (nI (sumL ro (ordL (ahS (smR ro)) (actL ro n))).length)) ∧ Ext H H1)) args s 40 640 (fre g)) (F0 m 24 ls []) := by
    intro fuel
    induction fuel with
    | zero => intro k cap u v hfu; exact absurd hfu (Nat.not_lt_zero _)
    | succ fuel ih24 =>
      intro k cap u v hfu hk hcr H ha_b2 hK hC4 locs hL ls hl
      have hE := hE4.chgx hC4 hQs
      have ob := ob0.ext hE
      have hst := hst0.ext hE
      have hof := hof0.ext hE
      have hbg := hbg0.ext hE
      have hsd := hsd0.ext hE
      have hrb := hrb4.keep hC4 (fun q hq z => by have := hq.2; unfold QX at z; omega) hQE
      have hcl := hcr.le
      have hofr := hofr0.ext hE
      have hsl := sum_le ro (ordL (ahS (smR ro)) (actL ro n)) k
      have hqt : BgQ g x (sumL ro ((ordL (ahS (smR ro)) (actL ro n)).take k)) b2 H := ⟨_, al, Or.inl rfl, lo_b2, ha_b2, hK.lst⟩
      refine lv_iload_n hx hb dX2_bySums_24 rfl (lv_at hl 3 rfl) ?_
      refine lv_aload_n hx hb dX2_bySums_25 rfl (lv_at hl 1 rfl) ?_
      refine Cp.callV (v := .int (nI ((ordL (ahS (smR ro)) (actL ro n)).length))) (ct_X3_size l g _ (XL x (ordL (ahS (smR ro)) (actL ro n))) ((ordL (ahS (smR ro)) (actL ro n)).length) rb ) X hL hl vb_X3_size q564 (hrb.recv hKV) rfl rfl (Nat.le_of_ble_eq_true rfl) dX2_bySums_26 ⟨Nat.le_of_ble_eq_true rfl, Nat.le_of_ble_eq_true rfl⟩ (by omega) (by omega) hrb (fun locs hL => ?_)
      refine n_icmp_ge (tgt := 68) X dX2_bySums_29 (by decide) (by omega) (by omega) (fun c_29 => ?_) (fun c_29 => ?_)
      ·
        refine lv_aload_n hx hb dX2_bySums_68 rfl (lv_at hl 2 rfl) ?_
        refine Cp.callV (v := .int (nI ((sumL ro ((ordL (ahS (smR ro)) (actL ro n)).take k)).length))) (ct_X3_size l g (QX b2 al H4.size) (XL x (sumL ro ((ordL (ahS (smR ro)) (actL ro n)).take k))) ((sumL ro ((ordL (ahS (smR ro)) (actL ro n)).take k)).length) b2 ) X hL hl vb_X3_size q564 (ha_b2.recv hKV rfl) rfl rfl (Nat.le_of_ble_eq_true rfl) dX2_bySums_69 ⟨Nat.le_of_ble_eq_true rfl, Nat.le_of_ble_eq_true rfl⟩ (by omega) (by omega) ⟨al, Or.inl rfl, lo_b2, ha_b2, hK.lst⟩ (fun locs hL => ?_)
        exact r_iret X hL rfl rfl dX2_bySums_72 (by omega) (by omega) ⟨by rw [show k = (ordL (ahS (smR ro)) (actL ro n)).length by omega, List.take_length], hE⟩
      ·
        refine lv_aload_n hx hb dX2_bySums_32 rfl (lv_at hl 0 rfl) ?_
        refine lv_aload_n hx hb dX2_bySums_33 rfl (lv_at hl 1 rfl) ?_
        refine lv_iload_n hx hb dX2_bySums_34 rfl (lv_at hl 3 rfl) ?_
        refine Cp.callV (v := .ref (x ((ordL (ahS (smR ro)) (actL ro n)).getD k 0))) (ct_X3_get l g _ (XL x (ordL (ahS (smR ro)) (actL ro n))) ((ordL (ahS (smR ro)) (actL ro n)).length) rb k (by omega)) X hL hl vb_X3_get q568 (hrb.recv hKV) rfl rfl (Nat.le_of_ble_eq_true rfl) dX2_bySums_35 ⟨Nat.le_of_ble_eq_true rfl, Nat.le_of_ble_eq_true rfl⟩ (by omega) (by omega) hrb (fun locs hL => ?_)
        have hqk := hofr _ (getD_mem (L := (ordL (ahS (smR ro)) (actL ro n))) (k := k) (by omega))
        obtain ⟨fqk, oqk⟩ := hqk.ob
        refine r_cast (ci := 5) X rfl oqk q572 dX2_bySums_38 ?_
        refine lv_aload_n hx hb dX2_bySums_41 rfl (lv_at hl 2 rfl) ?_
        refine lv_bipush (v := nI 15) hx hb dX2_bySums_42 (by decide) ?_
        refine Cp.callV (v := .int (bI (btV ro (nI 15) (sumL ro ((ordL (ahS (smR ro)) (actL ro n)).take k)) (mv ro ((ordL (ahS (smR ro)) (actL ro n)).getD k 0))))) (ct_X2_isBeaten l g ro a (mv ro ((ordL (ahS (smR ro)) (actL ro n)).getD k 0)) (x ((ordL (ahS (smR ro)) (actL ro n)).getD k 0)) x (sumL ro ((ordL (ahS (smR ro)) (actL ro n)).take k)) b2 (nI 15) hw (by omega)) X hL hl vb_X2_isBeaten q560 (hst.recv hKV) rfl rfl (Nat.le_of_ble_eq_true rfl) dX2_bySums_44 ⟨Nat.le_of_ble_eq_true rfl, Nat.le_of_ble_eq_true rfl⟩ (by omega) (by omega) ⟨hst.sd, hqk, hqt, hofr.sub (fun i hi => sum_sub hi)⟩ (fun locs hL => ?_)
        refine b_ifne (tgt := 62) X dX2_bySums_47 (by decide) (fun c_47 => ?_) (fun c_47 => ?_)
        ·
          refine lv_iinc (v := nI (k + 1)) (lv' := [(3, .int _), (0, .ref _), (1, .ref _), (2, .ref _)]) hx hb dX2_bySums_62 hl (k := 3) rfl (nI_iinc _ 1 rfl) (by decide) rfl (fun ls hl => ?_)
          refine lv_goto (tgt := 24) hx hb dX2_bySums_65 (by decide) ?_
          rw [← sum_f (by omega) c_47] at hK
          exact W.widen (by omega) (by omega) (ih24 (k + 1) cap u v (by omega) (by omega) hcr _ ha_b2 hK hC4 _ hL ls (lv_sub hl [1, 2, 3, 0] rfl))
        ·
          refine lv_aload_n hx hb dX2_bySums_50 rfl (lv_at hl 2 rfl) ?_
          refine lv_aload_n hx hb dX2_bySums_51 rfl (lv_at hl 1 rfl) ?_
          refine lv_iload_n hx hb dX2_bySums_52 rfl (lv_at hl 3 rfl) ?_
          refine Cp.callV (v := .ref (x ((ordL (ahS (smR ro)) (actL ro n)).getD k 0))) (ct_X3_get l g _ (XL x (ordL (ahS (smR ro)) (actL ro n))) ((ordL (ahS (smR ro)) (actL ro n)).length) rb k (by omega)) X hL hl vb_X3_get q568 (hrb.recv hKV) rfl rfl (Nat.le_of_ble_eq_true rfl) dX2_bySums_53 ⟨Nat.le_of_ble_eq_true rfl, Nat.le_of_ble_eq_true rfl⟩ (by omega) (by omega) hrb (fun locs hL => ?_)
          refine r_cast (ci := 5) X rfl oqk q572 dX2_bySums_56 ?_
          obtain ⟨u1, v1, hu, hcr1⟩ := hcr.step hK.cap.1 (by omega)
          have hcl1 := hcr1.le
          have hnq : ∀ i, i ∈ (ordL (ahS (smR ro)) (actL ro n)) → ¬ QX b2 al H4.size (x i) := fun i hi z => by have := hofr0.lt hi; have := sz_b2; unfold QX at z; omega
          refine Ct.callV (ct_X3_adds l g (QX b2 al H4.size) (XL x (sumL ro ((ordL (ahS (smR ro)) (actL ro n)).take k))) ((sumL ro ((ordL (ahS (smR ro)) (actL ro n)).take k)).length) cap b2 al (x ((ordL (ahS (smR ro)) (actL ro n)).getD k 0)) u1 v1 (by omega) (Or.inl rfl) (hnq _ (getD_mem (by omega))) hu) X hL hl vb_X3_adds q1064 (ha_b2.recv hKV rfl) rfl rfl (Nat.le_of_ble_eq_true rfl) dX2_bySums_59 ⟨Nat.le_of_ble_eq_true rfl, Nat.le_of_ble_eq_true rfl⟩ (by omega) (by omega) ⟨⟨ha_b2, hK, (hofr.sub (fun i hi => sum_sub hi)).elr (fun i hi => hnq i (sum_sub hi)), (hofr _ (getD_mem (by omega))).ob⟩, fun q hq => Or.inr (Or.inr (Nat.le_trans hC4.1 hq))⟩ (fun r H locs hL hp => ?_)
          obtain ⟨rfl, ha_b2, hK, hC1⟩ := hp
          have hC4 := hC4.trans hC1
          have hK := hK.to (XL_app x (sumL ro ((ordL (ahS (smR ro)) (actL ro n)).take k)) ((ordL (ahS (smR ro)) (actL ro n)).getD k 0)) (fun _ h => h)
          refine lv_iinc (v := nI (k + 1)) (lv' := [(3, .int _), (0, .ref _), (1, .ref _), (2, .ref _)]) hx hb dX2_bySums_62 hl (k := 3) rfl (nI_iinc _ 1 rfl) (by decide) rfl (fun ls hl => ?_)
          refine lv_goto (tgt := 24) hx hb dX2_bySums_65 (by decide) ?_
          rw [len_app, ← sum_t (by omega) c_47] at hK
          exact W.widen (by omega) (by omega) (ih24 (k + 1) _ (u + u1) (v + v1) (by omega) (by omega) hcr1 _ ha_b2 hK hC4 _ hL ls (lv_sub hl [1, 2, 3, 0] rfl))
  exact W.widen (by omega) (by omega) (L24 ((ordL (ahS (smR ro)) (actL ro n)).length + 1) 0 0 0 0 (by omega) (by omega) (Or.inl ⟨rfl, rfl, rfl⟩) _ ha_b2 hK hCr _ hL ls (lv_sub hl [3, 2, 1, 0] rfl))
theorem vb_X2_bySums : VB yX2_bySums cX2_bySums 4 (some .int) 0 := ⟨q1013, q1014, q100, q1015, ⟨by decide, by decide, by decide +kernel⟩⟩
