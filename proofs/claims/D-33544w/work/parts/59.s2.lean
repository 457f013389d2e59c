/-! bags: lists of numbers stand for lists of addresses -/
def XL (x : Nat → Nat) (L : List Nat) : Nat → Nat := fun k => x (L.getD k 0)
theorem XL_app (x : Nat → Nat) (L : List Nat) (i : Nat) : ∀ j, j < L.length + 1 → va_up (XL x L) L.length (x i) j = XL x (L ++ [i]) j := fun j hj => by
  unfold va_up XL
  by_cases q : j = L.length
  · rw [if_pos q, q]; simp [List.getD]
  · rw [if_neg q]; simp [List.getD, List.getElem?_append_left (show j < L.length by omega)]
theorem getD_mem {L : List Nat} {k : Nat} (h : k < L.length) : L.getD k 0 ∈ L := by rw [getD_at h]; exact List.getElem_mem h
theorem take_flt {L : List Nat} {k : Nat} (h : k < L.length) (p : Nat → Bool) : (L.take (k + 1)).filter p = (L.take k).filter p ++ (if p (L.getD k 0) then [L.getD k 0] else []) := by
  rw [List.take_succ_eq_append_getElem h, List.filter_append, getD_at h]
  cases q : p L[k] <;> simp [q]
theorem flt_le (L : List Nat) (k : Nat) (p : Nat → Bool) : ((L.take k).filter p).length ≤ k := Nat.le_trans (List.length_filter_le _ _) (by rw [List.length_take]; omega)
/-- the offers are there -/
def ElO (g : GT) (x : Nat → Nat) (L : List Nat) (H : Heap) : Prop := ∀ i, i ∈ L → ∃ fs, Ob g (x i) 5 fs H
theorem ElO.ext {g : GT} {x : Nat → Nat} {L : List Nat} {H H1 : Heap} (h : ElO g x L H) (e : Ext H H1) : ElO g x L H1 := fun i hi => by
  obtain ⟨fs, o⟩ := h i hi
  exact ⟨fs, o.ext e⟩
theorem ElO.sub {g : GT} {x : Nat → Nat} {L F : List Nat} {H : Heap} (h : ElO g x L H) (e : ∀ i, i ∈ F → i ∈ L) : ElO g x F H := fun i hi => h i (e i hi)
theorem ElO.el {g : GT} {x : Nat → Nat} {L : List Nat} {H : Heap} {P : Nat → Prop} (h : ElO g x L H) (d : ∀ i, i ∈ L → ¬ P (x i)) : ElR g P (XL x L) L.length H := fun j hj => ⟨d _ (getD_mem hj), h _ (getD_mem hj)⟩
theorem ElO.new {g : GT} {x : Nat → Nat} {L F : List Nat} {H0 H : Heap} (h : ElO g x L H0) (e : Ext H0 H) (s : ∀ i, i ∈ F → i ∈ L) : ElR g (fun q => H0.size ≤ q) (XL x F) F.length H := ((h.ext e).sub s).el (fun i hi => by
  obtain ⟨fs, o⟩ := h i (s i hi)
  exact Nat.not_le_of_lt o.lt)
theorem ElO.chg {g : GT} {x : Nat → Nat} {L : List Nat} {H H1 : Heap} {P : Nat → Prop} (h : ElO g x L H) (c : Chg P H H1) (d : ∀ i, i ∈ L → ¬ P (x i)) : ElO g x L H1 := fun i hi => by
  obtain ⟨fs, o⟩ := h i hi
  exact ⟨fs, o.chg c (d i hi)⟩
theorem LstR.recv {g : GT} {s : State} {P : Nat → Prop} {x : Nat → Nat} {n a : Nat} {H : Heap} (h : LstR g P x n a H) (hK : KV g s) : ∃ cellB : Cell, H[a]? = some cellB ∧ cellB.vm.isStatics = false ∧ s.vm.findClass RJ2 = some cellB.cls := by
  obtain ⟨m, ar, cap, f, h1, h2, h3, h⟩ := h
  exact h3.recv hK rfl
theorem BagR.recv {g : GT} {s : State} {P : Nat → Prop} {x : Nat → Nat} {n a : Nat} {H : Heap} (h : BagR g P x n a H) (hK : KV g s) : ∃ cellB : Cell, H[a]? = some cellB ∧ cellB.vm.isStatics = false ∧ s.vm.findClass RX3 = some cellB.cls := by
  obtain ⟨al, h1, h2, h4, h⟩ := h
  exact h4.recv hK rfl
theorem BagR.to {g : GT} {P Q : Nat → Prop} {x y : Nat → Nat} {n a : Nat} {H : Heap} (h : BagR g P x n a H) (e : ∀ j, j < n → x j = y j) (hP : ∀ q, P q → Q q) : BagR g Q y n a H := by
  obtain ⟨al, h1, h2, h4, h5⟩ := h
  exact ⟨al, hP _ h1, h2, h4, h5.to e (fun q hq => ⟨hP q hq.1, hq.2⟩)⟩
/-- what a list's growing has cost -/
def CapR (cap u v : Nat) : Prop := (cap = 0 ∧ u = 0 ∧ v = 0) ∨ (cap = 10 ∧ u = 1 ∧ v = 10) ∨ (cap = 15 ∧ u = 2 ∧ v = 25) ∨ (cap = 22 ∧ u = 3 ∧ v = 47) ∨ (cap = 33 ∧ u = 4 ∧ v = 80) ∨ (cap = 49 ∧ u = 5 ∧ v = 129)
theorem CapR.le {cap u v : Nat} (h : CapR cap u v) : u ≤ 5 ∧ v ≤ 129 ∧ cap ≤ 49 := by unfold CapR at h; omega
theorem CapR.step {cap u v n : Nat} (h : CapR cap u v) (hn : n ≤ cap) (h2 : n ≤ 40) : ∃ u1 v1, (n < cap ∨ (1 ≤ u1 ∧ nxC n ≤ v1)) ∧ CapR (if n < cap then cap else nxC n) (u + u1) (v + v1) := by
  by_cases q : n < cap
  · exact ⟨0, 0, Or.inl q, by rw [if_pos q]; exact h⟩
  · have e : n = cap := by omega
    subst e
    refine ⟨1, nxC n, Or.inr ⟨Nat.le_refl _, Nat.le_refl _⟩, ?_⟩
    rw [if_neg q]
    unfold CapR at h ⊢
    rcases h with ⟨rfl, rfl, rfl⟩ | ⟨rfl, rfl, rfl⟩ | ⟨rfl, rfl, rfl⟩ | ⟨rfl, rfl, rfl⟩ | ⟨rfl, rfl, rfl⟩ | ⟨rfl, rfl, rfl⟩
    · exact Or.inr (Or.inl ⟨by decide, by decide, by decide⟩)
    · exact Or.inr (Or.inr (Or.inl ⟨by decide, by decide, by decide⟩))
    · exact Or.inr (Or.inr (Or.inr (Or.inl ⟨by decide, by decide, by decide⟩)))
    · exact Or.inr (Or.inr (Or.inr (Or.inr (Or.inl ⟨by decide, by decide, by decide⟩))))
    · exact Or.inr (Or.inr (Or.inr (Or.inr (Or.inr ⟨by decide, by decide, by decide⟩))))
    · omega
section RLAM
variable {p : Program} {l : Launch} {e : Env} {s : State} {m : MethodId} {args : Array Value} {below : List Frame} {meth : Method} {c : Code} {H : Heap} {locs : List Loc} {cells slots mc ms d mc' ms' D : Nat} {Q : State → Prop}
variable {cc : ByteArray} {nL pc index count a : Nat} {ls : Array Slot} {y xi : MethodName} {ret : Option FieldType} {g : GT} {As rest st : List Value} {lv : List (Nat × Value)} {Po : Option Value → Heap → Heap → Prop}
theorem r_lam (hM : LamRun l g xi a As D mc' ms' H Po) (X : Cx p g s m args meth c cc nL y ret) (hL : ∀ q ∈ locs, gLo g ≤ q.base) (hl : lv_has ls nL lv) (hlink : Cond.methodLink y.cls index xi ∈ lw_all) (hst : st = As.reverse ++ .ref a :: rest) (hW : (rest.map fun v => v.category).sum ≤ 8) (hdg : decode cc pc = .ok (.invokeinterface index count, 5)) (hD : D + 1 ≤ d) (hc : cells + mc' ≤ mc) (hs : slots + ms' ≤ ms)
    (kk : ∀ (r : Option Value) (H1 : Heap) (locs1 : List Loc), (∀ q ∈ locs1, gLo g ≤ q.base) → Po r H H1 → W p l e (rmL d mc ms) s m args below meth c H1 locs1 (cells + mc') (slots + ms') Q (F0 m (pc + 5) ls (r.toList ++ rest))) :
    W p l e (rmL d mc ms) s m args below meth c H locs cells slots Q (F0 m pc ls st) := by
  subst hst
  exact hM p e s m args below meth c locs cells slots mc ms d Q cc nL pc index count ls y ret rest lv X hL hl hlink hW hdg hD hc hs kk
end RLAM
theorem LamRun.mono {l : Launch} {g : GT} {xi : MethodName} {a D D1 u u1 v v1 : Nat} {As : List Value} {H : Heap} {Po : Option Value → Heap → Heap → Prop} (h : LamRun l g xi a As D u v H Po) (hD : D ≤ D1) (hu : u ≤ u1) (hv : v ≤ v1) : LamRun l g xi a As D1 u1 v1 H Po := by
  intro p e s m args below meth c locs cells slots mc ms d Q cc nL pc index count ls y ret rest lv X hL hl hlink hW hdg hD2 hc hs kk
  exact h p e s m args below meth c locs cells slots mc ms d Q cc nL pc index count ls y ret rest lv X hL hl hlink hW hdg (by omega) (by omega) (by omega) (fun r H1 locs1 h1 h2 => W.widen (by omega) (by omega) (kk r H1 locs1 h1 h2))
theorem KV.gE {g : GT} {s : State} (h : KV g s) : gE g < gLo g := by
  obtain ⟨-, -, -, -, -, -, -, -, -, -, -, -, h9, -⟩ := h; exact h9
theorem LstK.on {g : GT} {P : Nat → Prop} {x : Nat → Nat} {n cap a b : Nat} {H H1 : Heap} (h : LstK g P x n cap a H) (e : On b H H1) (nb : ¬ P b) (lb : gLo g ≤ b) (hE : gE g < gLo g) : LstK g P x n cap a H1 := h.keep (Q := fun q => q = b) (e.chg rfl) (fun _ hq z => nb (z ▸ hq)) (fun z => by omega)
theorem sub_flt {L : List Nat} {k i : Nat} {p : Nat → Bool} (h : i ∈ (L.take k).filter p) : i ∈ L := List.mem_of_mem_take (List.mem_filter.mp h).1
theorem take_app {L : List Nat} {k : Nat} (h : k < L.length) : L.take (k + 1) = L.take k ++ [L.getD k 0] := by
  rw [List.take_succ_eq_append_getElem h, getD_at h]
theorem take_le (L : List Nat) (k : Nat) : (L.take k).length ≤ k := by rw [List.length_take]; omega
theorem flt_t {L : List Nat} {k : Nat} {p : Nat → Bool} (h : k < L.length) (c : p (L.getD k 0) = true) : (L.take (k + 1)).filter p = (L.take k).filter p ++ [L.getD k 0] := by rw [take_flt h, c]; rfl
theorem flt_f {L : List Nat} {k : Nat} {p : Nat → Bool} (h : k < L.length) (c : p (L.getD k 0) = false) : (L.take (k + 1)).filter p = (L.take k).filter p := by rw [take_flt h, c]; simp
theorem len_app (F : List Nat) (i : Nat) : F.length + 1 = (F ++ [i]).length := by simp
theorem ElO.lt {g : GT} {x : Nat → Nat} {L : List Nat} {H : Heap} (h : ElO g x L H) {i : Nat} (hi : i ∈ L) : x i < H.size := by
  obtain ⟨fs, o⟩ := h i hi; exact o.lt
/-- how many of the first k; is there one -/
theorem cntP_s {L : List Nat} {k : Nat} {p : Nat → Bool} (h : k < L.length) : ((L.take (k + 1)).filter p).length = ((L.take k).filter p).length + (if p (L.getD k 0) then 1 else 0) := by
  rw [take_flt h, List.length_append]
  cases p (L.getD k 0) <;> simp
theorem anyP_s {L : List Nat} {k : Nat} {p : Nat → Bool} (h : k < L.length) : (L.take (k + 1)).any p = ((L.take k).any p || p (L.getD k 0)) := by
  rw [take_app h, List.any_append]; simp
theorem anyP_t {L : List Nat} {k : Nat} {p : Nat → Bool} (h : (L.take k).any p = true) : L.any p = true := by
  rw [List.any_eq_true] at h ⊢
  obtain ⟨i, hi, hp⟩ := h
  exact ⟨i, List.mem_of_mem_take hi, hp⟩
theorem add_bI (v : Nat) (b : Bool) : nI v + bI b = nI (v + (if b then 1 else 0)) := by
  cases b
  · exact nI_add v 0
  · exact nI_add v 1

set_option maxRecDepth 100000 in
set_option maxHeartbeats 4000000 in
theorem ct_J2_initk (l : Launch) (g : GT) (P : Nat → Prop) (a : Nat) (p1 : P a) (l1 : gLo g ≤ a) : Ct l g yJ2_init cJ2_init 1 none 4 0 0 [.ref a] (Ob g a 7 [.int 0, .null, .int 0]) (fun r H H1 => r = none ∧ (∀ x, LstK g P x 0 0 a H1) ∧ On a H H1) := by
  refine Ct.of (by decide) (Nat.le_of_ble_eq_true rfl) ?_
  intro p e s m args below meth c X hP ls hl
  have hx := X.1
  have hb := X.2.1
  have hKV := X.2.2.2.2.2.2.2.1.1
  have hL : ∀ q ∈ ([] : List Loc), gLo g ≤ q.base := fun _ h => by cases h
  have ob := hP
  have hl : lv_has ls 1 [(0, .ref a)] := hl
  refine lv_aload_n hx hb dJ2_init_0 rfl (lv_at hl 0 rfl) ?_
  refine Ct.callI (ct_J1_init l g P a p1 l1) X hL hl ib_J1_init q157 rfl rfl (Nat.le_of_ble_eq_true rfl) dJ2_init_1 ⟨Nat.le_of_ble_eq_true rfl, Nat.le_of_ble_eq_true rfl⟩ (by omega) (by omega) ob (fun r H locs hL hp => ?_)
  obtain ⟨rfl, ob, ho1⟩ := hp
  refine lv_aload_n hx hb dJ2_init_4 rfl (lv_at hl 0 rfl) ?_
  refine r_gs X hL hKV.2.2.2.2.1 q164 (fun _ h => h) dJ2_init_5 ?_
  refine r_put (C := RJ2) (T := TJ2) (N := 3) (ci := 7) X in_J2 tyJ2 tyJ2_ok nmJ2 rfl 1 (Nat.le_of_ble_eq_true rfl) q166 (fun _ h => h) rfl hL ob l1 rfl rfl (Nat.le_of_ble_eq_true rfl) dJ2_init_8 (fun H locs hL h1 h2 => ?_)
  have ob : Ob g a 7 [.int 0, .ref (gE g), .int 0] H := h1
  have hon : On a s.heap H := ⟨h2.1.trans ho1.1, fun q hq => (h2.2 q hq).trans (ho1.2 q hq)⟩
  have hBs := X.2.2.2.2.2.2.2.1.2
  have hEa := gE_at hKV hBs
  have hlt := hKV.gE
  exact r_vret X hL dJ2_init_11 (by omega) (by omega) ⟨rfl, fun x => ⟨_, gE g, _, p1, l1, ob, hEa.at (hon.2 _ (by omega)), Nat.le_refl _, by omega, by omega, fun j hj => absurd hj (Nat.not_lt_zero _), Or.inl ⟨rfl, rfl⟩⟩, hon⟩

set_option maxRecDepth 100000 in
set_option maxHeartbeats 4000000 in
theorem ct_X3_init (l : Launch) (g : GT) (P : Nat → Prop) (a : Nat) (p1 : P a) (l1 : gLo g ≤ a) : Ct l g yX3_init cX3_init 1 none 5 1 3 [.ref a] (fun H => Ob g a 3 [.null] H ∧ ∀ q, H.size ≤ q → P q) (fun r H H1 => ∃ al, r = none ∧ Ob g a 3 [.ref al] H1 ∧ (∀ x, LstK g (fun q => P q ∧ q ≠ a) x 0 0 al H1) ∧ Chg P H H1) := by
  refine Ct.of (by decide) (Nat.le_of_ble_eq_true rfl) ?_
  intro p e s m args below meth c X hP ls hl
  have hx := X.1
  have hb := X.2.1
  have hKV := X.2.2.2.2.2.2.2.1.1
  have hL : ∀ q ∈ ([] : List Loc), gLo g ≤ q.base := fun _ h => by cases h
  obtain ⟨ob, hPn⟩ := hP
  have hl : lv_has ls 1 [(0, .ref a)] := hl
  have hC : Chg P s.heap s.heap := Chg.rfl'
  refine lv_aload_n hx hb dX3_init_0 rfl (lv_at hl 0 rfl) ?_
  refine W.objInit hx hb X.2.2.2.1 (X.2.2.2.2.1 _ q151) (X.2.2.2.2.1 _ q138) (X.2.2.2.2.1 _ q139) rfl (hl.1.trans X.2.2.1.symm) rfl dX3_init_1 (Nat.le_of_ble_eq_true rfl) (Nat.le_of_ble_eq_true rfl) ?_
  refine lv_aload_n hx hb dX3_init_4 rfl (lv_at hl 0 rfl) ?_
  obtain ⟨b1, hb1⟩ : ∃ b, s.heap.size = b := ⟨_, rfl⟩
  have sz_b1 : s.heap.size ≤ b1 := by rw [← hb1]; exact Nat.le_refl _
  have lo_b1 : gLo g ≤ b1 := Nat.le_trans X.2.2.2.2.2.2.2.1.2.1 sz_b1
  have p_b1 : P b1 := hPn b1 sz_b1
  have ne_a_b1 : a ≠ b1 := Nat.ne_of_lt (by rw [← hb1]; exact ob.lt)
  refine r_new (C := RJ2) (T := TJ2) (N := 3) (ci := 7) X in_J2 tyJ2 tyJ2_ok q152 q153 q104 rfl (fs := [.int 0, .null, .int 0]) (fun j hj => by rcases j with _ | _ | _ | _ | _ | j <;> first | rfl | omega) (by show _ + 1 ≤ 1; omega) (by show _ + 3 ≤ 3; omega) dX3_init_5 (fun H ha_b1 hE_b1 hz_b1 => ?_)
  rw [hb1] at ha_b1 hz_b1 ⊢
  have ob := ob.ext hE_b1
  have hC := hC.trans hE_b1.chg
  refine lv_dup hx hb dX3_init_8 rfl ?_
  refine Ct.callI (ct_J2_initk l g (fun q => P q ∧ q ≠ a) b1 ⟨p_b1, Ne.symm ne_a_b1⟩ lo_b1) X hL hl ib_J2_init q154 rfl rfl (Nat.le_of_ble_eq_true rfl) dX3_init_9 ⟨Nat.le_of_ble_eq_true rfl, Nat.le_of_ble_eq_true rfl⟩ (by omega) (by omega) ha_b1 (fun r H locs hL hp => ?_)
  obtain ⟨rfl, hK, ho1⟩ := hp
  have ob := ob.on ho1 ne_a_b1
  have hC := hC.trans (ho1.chg p_b1)
  refine r_putF (C := RX3) (T := TX3) (N := 1) (ci := 3) X in_X3 tyX3 tyX3_ok nmX3 rfl 0 (Nat.le_of_ble_eq_true rfl) q178 (fun _ h => h) rfl rfl rfl hL ob l1 rfl rfl (Nat.le_of_ble_eq_true rfl) dX3_init_12 (fun H locs hL h1 h2 => ?_)
  have ob : Ob g a 3 [.ref b1] H := h1
  have hC := hC.trans (h2.chg p1)
  have hK := fun x => (hK x).on h2 (fun z => z.2 rfl) l1 hKV.gE
  exact r_vret X hL dX3_init_15 (by omega) (by omega) ⟨b1, rfl, ob, hK, hC⟩
theorem ib_X3_init : IB yX3_init cX3_init 1 0 := ⟨q149, q101, q150, rfl, ⟨by decide, by decide, by decide +kernel⟩⟩

set_option maxRecDepth 100000 in
set_option maxHeartbeats 4000000 in
theorem ct_X3_size (l : Launch) (g : GT) (P : Nat → Prop) (x : Nat → Nat) (n a : Nat)  : Ct l g yX3_size cX3_size 1 (some .int) 2 0 0 [.ref a] (BagR g P x n a) (fun r H H1 => r = some (.int (nI n)) ∧ H1 = H) := by
  refine Ct.of (by decide) (Nat.le_of_ble_eq_true rfl) ?_
  intro p e s m args below meth c X hP ls hl
  have hx := X.1
  have hb := X.2.1
  have hKV := X.2.2.2.2.2.2.2.1.1
  have hL : ∀ q ∈ ([] : List Loc), gLo g ≤ q.base := fun _ h => by cases h
  obtain ⟨al, pa, la, ob, hls⟩ := hP
  have hl : lv_has ls 1 [(0, .ref a)] := hl
  refine lv_aload_n hx hb dX3_size_0 rfl (lv_at hl 0 rfl) ?_
  refine r_get (C := RX3) (T := TX3) (N := 1) (ci := 3) X in_X3 rfl 0 (Nat.le_of_ble_eq_true rfl) q178 (fun _ h => h) ob rfl dX3_size_1 ?_
  refine Cp.callV (v := .int (nI n)) (ct_J2_size l g (fun q => P q ∧ q ≠ a) x n al ) X hL hl vb_J2_size q338 (hls.recv hKV) rfl rfl (Nat.le_of_ble_eq_true rfl) dX3_size_4 ⟨Nat.le_of_ble_eq_true rfl, Nat.le_of_ble_eq_true rfl⟩ (by omega) (by omega) hls (fun locs hL => ?_)
  exact r_iret X hL rfl rfl dX3_size_7 (by omega) (by omega) ⟨rfl, rfl⟩
theorem vb_X3_size : VB yX3_size cX3_size 1 (some .int) 0 := ⟨q565, q566, q101, q567, ⟨by decide, by decide, by decide +kernel⟩⟩

set_option maxRecDepth 100000 in
set_option maxHeartbeats 4000000 in
theorem ct_X3_get (l : Launch) (g : GT) (P : Nat → Prop) (x : Nat → Nat) (n a : Nat) (i : Nat) (hi : i < n) : Ct l g yX3_get cX3_get 2 (some (.object "java/lang/Object")) 4 0 0 [.ref a, .int (nI i)] (BagR g P x n a) (fun r H H1 => r = some (.ref (x i)) ∧ H1 = H) := by
  refine Ct.of (by decide) (Nat.le_of_ble_eq_true rfl) ?_
  intro p e s m args below meth c X hP ls hl
  have hx := X.1
  have hb := X.2.1
  have hKV := X.2.2.2.2.2.2.2.1.1
  have hL : ∀ q ∈ ([] : List Loc), gLo g ≤ q.base := fun _ h => by cases h
  obtain ⟨al, pa, la, ob, hls⟩ := hP
  have hl : lv_has ls 2 [(0, .ref a), (1, .int (nI i))] := hl
  refine lv_aload_n hx hb dX3_get_0 rfl (lv_at hl 0 rfl) ?_
  refine r_get (C := RX3) (T := TX3) (N := 1) (ci := 3) X in_X3 rfl 0 (Nat.le_of_ble_eq_true rfl) q178 (fun _ h => h) ob rfl dX3_get_1 ?_
  refine lv_iload_n hx hb dX3_get_4 rfl (lv_at hl 1 rfl) ?_
  refine Cp.callV (v := .ref (x i)) (ct_J2_get l g (fun q => P q ∧ q ≠ a) x n al i hi) X hL hl vb_J2_get q342 (hls.recv hKV) rfl rfl (Nat.le_of_ble_eq_true rfl) dX3_get_5 ⟨Nat.le_of_ble_eq_true rfl, Nat.le_of_ble_eq_true rfl⟩ (by omega) (by omega) hls (fun locs hL => ?_)
  exact r_aret X hL rfl (Or.inl ⟨_, rfl⟩) (Or.inr ⟨_, rfl⟩) dX3_get_8 (by omega) (by omega) ⟨rfl, rfl⟩
theorem vb_X3_get : VB yX3_get cX3_get 2 (some (.object "java/lang/Object")) 1 := ⟨q569, q570, q101, q571, ⟨by decide, by decide, by decide +kernel⟩⟩

set_option maxRecDepth 100000 in
set_option maxHeartbeats 4000000 in
theorem ct_X3_takes (l : Launch) (g : GT) (P : Nat → Prop) (x : Nat → Nat) (n a : Nat) (i : Nat) (hi : i < n) : Ct l g yX3_takes cX3_takes 2 (some (.object "java/lang/Object")) 5 0 0 [.ref a, .int (nI i)] (fun H => BagR g P x n a H ∧ ElR g P x n H) (fun r H H1 => r = some (.ref (x i)) ∧ BagR g P (remN x i) (n - 1) a H1 ∧ Chg P H H1) := by
  refine Ct.of (by decide) (Nat.le_of_ble_eq_true rfl) ?_
  intro p e s m args below meth c X hP ls hl
  have hx := X.1
  have hb := X.2.1
  have hKV := X.2.2.2.2.2.2.2.1.1
  have hL : ∀ q ∈ ([] : List Loc), gLo g ≤ q.base := fun _ h => by cases h
  obtain ⟨⟨al, pa, la, ob, hls⟩, hel⟩ := hP
  have hl : lv_has ls 2 [(0, .ref a), (1, .int (nI i))] := hl
  refine lv_aload_n hx hb dX3_takes_0 rfl (lv_at hl 0 rfl) ?_
  refine r_get (C := RX3) (T := TX3) (N := 1) (ci := 3) X in_X3 rfl 0 (Nat.le_of_ble_eq_true rfl) q178 (fun _ h => h) ob rfl dX3_takes_1 ?_
  refine lv_iload_n hx hb dX3_takes_4 rfl (lv_at hl 1 rfl) ?_
  refine Ct.callV (ct_J2_remove l g (fun q => P q ∧ q ≠ a) x n al i hi) X hL hl vb_J2_remove q608 (hls.recv hKV) rfl rfl (Nat.le_of_ble_eq_true rfl) dX3_takes_5 ⟨Nat.le_of_ble_eq_true rfl, Nat.le_of_ble_eq_true rfl⟩ (by omega) (by omega) ⟨hls, hel.to (fun j hj => ⟨j, hj, rfl⟩) (fun _ h => h.1)⟩ (fun r H locs hL hp => ?_)
  obtain ⟨rfl, hls, hC⟩ := hp
  have ob := ob.chg hC (fun z => z.2 rfl)
  exact r_aret X hL rfl (Or.inl ⟨_, rfl⟩) (Or.inr ⟨_, rfl⟩) dX3_takes_8 (by omega) (by omega) ⟨rfl, ⟨al, pa, la, ob, hls⟩, hC.mono (fun _ h => h.1)⟩
theorem vb_X3_takes : VB yX3_takes cX3_takes 2 (some (.object "java/lang/Object")) 1 := ⟨q1393, q1394, q101, q1395, ⟨by decide, by decide, by decide +kernel⟩⟩

set_option maxRecDepth 100000 in
set_option maxHeartbeats 4000000 in
theorem ct_X3_adds (l : Launch) (g : GT) (P : Nat → Prop) (x : Nat → Nat) (n cap a al e1 u v : Nat) (hn : n ≤ 60) (p1 : P a) (hne1 : ¬ P e1) (hu : n < cap ∨ (1 ≤ u ∧ nxC n ≤ v)) : Ct l g yX3_adds cX3_adds 3 none 8 u v [.ref a, .ref e1] (fun H => (Ob g a 3 [.ref al] H ∧ LstK g (fun q => P q ∧ q ≠ a) x n cap al H ∧ ElR g P x n H ∧ ∃ fs, Ob g e1 5 fs H) ∧ ∀ q, H.size ≤ q → P q) (fun r H H1 => r = none ∧ Ob g a 3 [.ref al] H1 ∧ LstK g (fun q => P q ∧ q ≠ a) (va_up x n e1) (n + 1) (if n < cap then cap else nxC n) al H1 ∧ Chg P H H1) := by
  refine Ct.of (by decide) (Nat.le_of_ble_eq_true rfl) ?_
  intro p e s m args below meth c X hP ls hl
  have hx := X.1
  have hb := X.2.1
  have hKV := X.2.2.2.2.2.2.2.1.1
  have hL : ∀ q ∈ ([] : List Loc), gLo g ≤ q.base := fun _ h => by cases h
  obtain ⟨⟨ob, hK, hel, oe⟩, hPn⟩ := hP
  have hl : lv_has ls 3 [(0, .ref a), (1, .ref e1)] := hl
  refine lv_aload_n hx hb dX3_adds_0 rfl (lv_at hl 0 rfl) ?_
  refine r_get (C := RX3) (T := TX3) (N := 1) (ci := 3) X in_X3 rfl 0 (Nat.le_of_ble_eq_true rfl) q178 (fun _ h => h) ob rfl dX3_adds_1 ?_
  refine lv_aload_n hx hb dX3_adds_4 rfl (lv_at hl 1 rfl) ?_
  refine Ct.callV (ct_J2_add l g (fun q => P q ∧ q ≠ a) x n cap al e1 u v hn (fun z => hne1 z.1) hu) X hL hl vb_J2_add q360 (hK.lst.recv hKV) rfl rfl (Nat.le_of_ble_eq_true rfl) dX3_adds_5 ⟨Nat.le_of_ble_eq_true rfl, Nat.le_of_ble_eq_true rfl⟩ (by omega) (by omega) ⟨hK, hel.to (fun j hj => ⟨j, hj, rfl⟩) (fun _ h => h.1), oe, fun q hq => ⟨hPn q hq, fun z => absurd ob.lt (by omega)⟩⟩ (fun r H locs hL hp => ?_)
  obtain ⟨rfl, hK, hC⟩ := hp
  have ob := ob.chg hC (fun z => z.2 rfl)
  refine lv_istore_n (lv' := [(2, .int _), (0, .ref _), (1, .ref _)]) hx hb dX3_adds_8 rfl hl (by decide) rfl (fun ls hl => ?_)
  exact r_vret X hL dX3_adds_9 (by omega) (by omega) ⟨rfl, ob, hK, hC.mono (fun _ h => h.1)⟩
theorem vb_X3_adds : VB yX3_adds cX3_adds 3 none 1 := ⟨q357, q358, q101, q359, ⟨by decide, by decide, by decide +kernel⟩⟩
