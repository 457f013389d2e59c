/-! a method of the superclass: called through an object of a class below it, or by super -/
def VBC (y : MethodName) (cc : ByteArray) (maxL : Nat) (ret : Option FieldType) (n : Nat) : Prop :=
  Cond.instanceMethod y ∈ lw_all ∧ Cond.initialized y.cls ∈ lw_all ∧ Cond.code y cc maxL ret ∈ lw_all ∧ (y.cls ≠ "java/lang/invoke/MethodHandle" ∧ y.cls ≠ "java/lang/invoke/VarHandle" ∧ (parseMethodDescriptor y.desc).map (fun d => d.parameters.length) = some n)
section CALLSC
variable {p : Program} {l : Launch} {e : Env} {R : Room} {s : State} {m : MethodId} {args : Array Value} {below : List Frame} {meth : Method} {c : Code} {H : Heap} {locs : List Loc} {cells slots mc ms d : Nat} {Q : State → Prop}
variable {cc cc' : ByteArray} {nL pc maxL n index mc' ms' d' : Nat} {ls : Array Slot} {y y' : MethodName} {ret ret' : Option FieldType} {g : GT} {P : Heap → Prop} {Po : Option Value → Heap → Heap → Prop} {b : Nat} {As rest : List Value} {st : List Value} {lv : List (Nat × Value)} {C : String} {v : Value}
theorem Ct.callVC (hse : (Cond.selects C y' y').before args s = true) (hM : Ct l g y' cc' maxL ret' d' mc' ms' (.ref b :: As) P Po) (X : Cx p g s m args meth c cc nL y ret) (hL : ∀ q ∈ locs, gLo g ≤ q.base) (hl : lv_has ls nL lv) (hV : VBC y' cc' maxL ret' n) (hlink : Cond.methodLink y.cls index y' ∈ lw_all)
    (hcell : ∃ cellB : Cell, H[b]? = some cellB ∧ cellB.vm.isStatics = false ∧ s.vm.findClass C = some cellB.cls) (hn : As.length = n) (hst : st = As.reverse ++ .ref b :: rest) (hW : (rest.map fun v => v.category).sum ≤ 8) (hdg : decode cc pc = .ok (.invokevirtual index, 3))
    (hR : d' + 1 ≤ d ∧ 8 + (maxL + 11) ≤ 64) (hc : cells + mc' ≤ mc) (hs : slots + ms' ≤ ms) (hP : P H)
    (kk : ∀ (r : Option Value) (H1 : Heap) (locs1 : List Loc), (∀ q ∈ locs1, gLo g ≤ q.base) → Po r H H1 → W p l e (rmL d mc ms) s m args below meth c H1 locs1 (cells + mc') (slots + ms') Q (F0 m (pc + 3) ls (r.toList ++ rest))) :
    W p l e (rmL d mc ms) s m args below meth c H locs cells slots Q (F0 m pc ls st) := by
  obtain ⟨hx, hb, hml, hown, hts, hrt, hlk, ⟨hKV, hB⟩, hnm⟩ := X
  obtain ⟨v1, v3, v4, v5⟩ := hV
  intro T hT XT
  have hBH : Base g H := by rw [← hT]; exact base_at XT hL hB
  have hR' : (rmL d' mc' ms').frames + 1 ≤ (rmL d mc ms).frames ∧ 8 + (maxL + 11) + (rmL d' mc' ms').locals ≤ (rmL d mc ms).locals := by
    refine ⟨hR.1, ?_⟩
    show 8 + (maxL + 11) + (4096 + 64 * d') ≤ 4096 + 64 * d
    omega
  exact run_go hL (va_runV (C := C) (index := index) (As := As) (b := b) (n := n) (Ts := lw_all) ⟨hx, hb, hml, hown, hts⟩ hM ⟨callB_of n hts (lw_meth v4) rfl rfl rfl (hts _ v3) (hts _ hlink) v5 hR', hts _ v1, hse⟩ ⟨Pcg.blind, hcell, fun U hU hW => ⟨rfl, ⟨hKV.warm hW, by rw [hU]; exact hBH⟩, by rw [hU]; exact hP⟩⟩ rfl hn hl.1 hst (by show 2 * 0 + _ ≤ 8; omega) hdg ⟨hc, hs⟩) kk T hT XT
theorem Ct.callSU (hsm : Cond.sameMethod y'.cls y'.cls y'.name y'.desc ∈ lw_all) (hsup : Cond.superclass y.cls y'.cls ∈ lw_all) (hno : y'.name ≠ "<init>") (hat : ∃ cC, ClassAt s C cC) (hM : Ct l g y' cc' maxL ret' d' mc' ms' (.ref b :: As) P Po) (X : Cx p g s m args meth c cc nL y ret) (hL : ∀ q ∈ locs, gLo g ≤ q.base) (hl : lv_has ls nL lv) (hV : VBC y' cc' maxL ret' n) (hlink : Cond.methodLink y.cls index y' ∈ lw_all)
    (hcell : ∃ cellB : Cell, H[b]? = some cellB ∧ cellB.vm.isStatics = false ∧ s.vm.findClass C = some cellB.cls) (hn : As.length = n) (hst : st = As.reverse ++ .ref b :: rest) (hW : (rest.map fun v => v.category).sum ≤ 8) (hdg : decode cc pc = .ok (.invokespecial index, 3))
    (hR : d' + 1 ≤ d ∧ 8 + (maxL + 11) ≤ 64) (hc : cells + mc' ≤ mc) (hs : slots + ms' ≤ ms) (hP : P H)
    (kk : ∀ (r : Option Value) (H1 : Heap) (locs1 : List Loc), (∀ q ∈ locs1, gLo g ≤ q.base) → Po r H H1 → W p l e (rmL d mc ms) s m args below meth c H1 locs1 (cells + mc') (slots + ms') Q (F0 m (pc + 3) ls (r.toList ++ rest))) :
    W p l e (rmL d mc ms) s m args below meth c H locs cells slots Q (F0 m pc ls st) := by
  obtain ⟨hx, hb, hml, hown, hts, hrt, hlk, ⟨hKV, hB⟩, hnm⟩ := X
  obtain ⟨v1, v3, v4, v5⟩ := hV
  obtain ⟨cC, hat⟩ := hat
  intro T hT XT
  have hBH : Base g H := by rw [← hT]; exact base_at XT hL hB
  have hR' : (rmL d' mc' ms').frames + 1 ≤ (rmL d mc ms).frames ∧ 8 + (maxL + 11) + (rmL d' mc' ms').locals ≤ (rmL d mc ms).locals := by
    refine ⟨hR.1, ?_⟩
    show 8 + (maxL + 11) + (4096 + 64 * d') ≤ 4096 + 64 * d
    omega
  have hG : GoodIn lw_all (va_wsSU y.cls index y' (ws_ y' cc' maxL ret')) := by
    refine lw_app ?_ (lw_meth v4)
    intro w hw
    simp only [List.mem_cons, List.not_mem_nil, or_false] at hw
    rcases hw with e | e | e | e | e
    · rw [e]; exact hlink
    · rw [e]; exact hsm
    · rw [e]; exact hsup
    · rw [e]; exact v1
    · rw [e]; exact v3
  exact run_go hL (va_runSU (C := C) hat (index := index) (As := As) (b := b) (n := n) (Ts := lw_all) ⟨hx, hb, hml, hown, hts⟩ hM (va_cwSU n hts hG rfl rfl rfl ⟨hno, v5.2.2⟩ hR') ⟨Pcg.blind, hcell, fun U hU hW => ⟨rfl, ⟨hKV.warm hW, by rw [hU]; exact hBH⟩, by rw [hU]; exact hP⟩⟩ rfl hn hl.1 hst (by show 2 * 0 + _ ≤ 8; omega) hdg ⟨hc, hs⟩) kk T hT XT
theorem Cp.callVC (hse : (Cond.selects C y' y').before args s = true) (hM : Cp l g y' cc' maxL ret' d' (.ref b :: As) P v) (X : Cx p g s m args meth c cc nL y ret) (hL : ∀ q ∈ locs, gLo g ≤ q.base) (hl : lv_has ls nL lv) (hV : VBC y' cc' maxL ret' n) (hlink : Cond.methodLink y.cls index y' ∈ lw_all)
    (hcell : ∃ cellB : Cell, H[b]? = some cellB ∧ cellB.vm.isStatics = false ∧ s.vm.findClass C = some cellB.cls) (hn : As.length = n) (hst : st = As.reverse ++ .ref b :: rest) (hW : (rest.map fun v => v.category).sum ≤ 8) (hdg : decode cc pc = .ok (.invokevirtual index, 3))
    (hR : d' + 1 ≤ d ∧ 8 + (maxL + 11) ≤ 64) (hc : cells ≤ mc) (hs : slots ≤ ms) (hP : P H)
    (kk : ∀ (locs1 : List Loc), (∀ q ∈ locs1, gLo g ≤ q.base) → W p l e (rmL d mc ms) s m args below meth c H locs1 cells slots Q (F0 m (pc + 3) ls (v :: rest))) :
    W p l e (rmL d mc ms) s m args below meth c H locs cells slots Q (F0 m pc ls st) :=
  Ct.callVC hse hM X hL hl hV hlink hcell hn hst hW hdg hR hc hs hP (fun r H1 locs1 h1 h2 => by obtain ⟨rfl, rfl⟩ := h2; exact kk locs1 h1)
theorem Cp.callSU (hsm : Cond.sameMethod y'.cls y'.cls y'.name y'.desc ∈ lw_all) (hsup : Cond.superclass y.cls y'.cls ∈ lw_all) (hno : y'.name ≠ "<init>") (hat : ∃ cC, ClassAt s C cC) (hM : Cp l g y' cc' maxL ret' d' (.ref b :: As) P v) (X : Cx p g s m args meth c cc nL y ret) (hL : ∀ q ∈ locs, gLo g ≤ q.base) (hl : lv_has ls nL lv) (hV : VBC y' cc' maxL ret' n) (hlink : Cond.methodLink y.cls index y' ∈ lw_all)
    (hcell : ∃ cellB : Cell, H[b]? = some cellB ∧ cellB.vm.isStatics = false ∧ s.vm.findClass C = some cellB.cls) (hn : As.length = n) (hst : st = As.reverse ++ .ref b :: rest) (hW : (rest.map fun v => v.category).sum ≤ 8) (hdg : decode cc pc = .ok (.invokespecial index, 3))
    (hR : d' + 1 ≤ d ∧ 8 + (maxL + 11) ≤ 64) (hc : cells ≤ mc) (hs : slots ≤ ms) (hP : P H)
    (kk : ∀ (locs1 : List Loc), (∀ q ∈ locs1, gLo g ≤ q.base) → W p l e (rmL d mc ms) s m args below meth c H locs1 cells slots Q (F0 m (pc + 3) ls (v :: rest))) :
    W p l e (rmL d mc ms) s m args below meth c H locs cells slots Q (F0 m pc ls st) :=
  Ct.callSU hsm hsup hno hat hM X hL hl hV hlink hcell hn hst hW hdg hR hc hs hP (fun r H1 locs1 h1 h2 => by obtain ⟨rfl, rfl⟩ := h2; exact kk locs1 h1)
theorem W.pc9 {pc' : Nat} (h : pc = pc') (k : W p l e R s m args below meth c H locs cells slots Q (F0 m pc' ls st)) : W p l e R s m args below meth c H locs cells slots Q (F0 m pc ls st) := by rw [h]; exact k
end CALLSC
theorem sbc_at {g : GT} {s : State} (hK : KV g s) : ∃ cC, ClassAt s RJ5 cC := by
  obtain ⟨hS, hfc, kC, hkC, hkind⟩ := hK.1.1 9 _ rfl
  exact ⟨_, hfc, kC, hkC, hkind⟩
/-- a private method is its own choice, whatever the object's class -/
theorem ens_sel {s : State} {args : Array Value} (hts : ∀ w ∈ lw_all, w.before args s = true) (hN : NW s) : (Cond.selects RJ5 yJ4_ensureCapacityInternal yJ4_ensureCapacityInternal).before args s = true := by
  have h1 : (Cond.selects RJ5 yJ4_isLatin1 yJ4_isLatin1).before args s = true := hts _ q677
  have hinst : (Cond.instanceMethod yJ4_ensureCapacityInternal).before args s = true := hts _ q658
  have hpriv : s.PrivateAt yJ4_ensureCapacityInternal := Cond.privateMethod_at (args := #[]) (hN _ (List.mem_filter.mpr ⟨q657, rfl⟩))
  obtain ⟨c0, r0, m0, hc, -, hm0, -, mk0, hk, hni⟩ := Cond.selects_spec h1
  obtain ⟨mk, methM, hnamed, hmethM, -, -⟩ := Cond.instanceMethod_spec hinst
  have hfound : s.methodFound? yJ4_ensureCapacityInternal.cls yJ4_ensureCapacityInternal.name yJ4_ensureCapacityInternal.desc = some mk := State.methodFound?_of_named hnamed ⟨by decide, by decide⟩
  have hcls : mk.cls = m0.cls := Option.some.inj ((show s.vm.findClass RJ4 = _ from findClass_of_methodNamed hnamed).symm.trans (show s.vm.findClass RJ4 = _ from findClass_of_methodNamed hm0))
  have hsel : selectMethod {} s.vm c0 mk = .method mk := selectMethod_private hmethM (hpriv mk methM hnamed hmethM)
  simp only [Cond.before, Cond.holds, Cond.value, hc, hfound, hnamed, hsel, hcls, hk]
  simp; exact hni

/-! the string builder: at most sixty plain signs -/
/-- a plain sign -/
def Chr (v : Int32) : Prop := ∃ c : Nat, 33 ≤ c ∧ c ≤ 126 ∧ v = nI c
theorem ch_all : ∀ c : Nat, c < 127 → (nI c).toInt8.toInt32 = nI c ∧ vp_nar .byte (nI c) = nI c ∧ (nI c &&& nI 255) = nI c ∧ ((nI c).toUInt32 % 65536).toInt32 = nI c := by decide +kernel
theorem Chr.i2b {v : Int32} (h : Chr v) : v.toInt8.toInt32 = v := by obtain ⟨c, h1, h2, rfl⟩ := h; exact (ch_all c (by omega)).1
theorem Chr.nar {v : Int32} (h : Chr v) : vp_nar .byte v = v := by obtain ⟨c, h1, h2, rfl⟩ := h; exact (ch_all c (by omega)).2.1
theorem Chr.and {v : Int32} (h : Chr v) : (v &&& nI 255) = v := by obtain ⟨c, h1, h2, rfl⟩ := h; exact (ch_all c (by omega)).2.2.1
theorem Chr.i2c {v : Int32} (h : Chr v) : (v.toUInt32 % 65536).toInt32 = v := by obtain ⟨c, h1, h2, rfl⟩ := h; exact (ch_all c (by omega)).2.2.2
theorem ch_nw : ∀ c : Nat, c < 127 → narrow .char (.int (nI c)) = .int (nI c) := by decide +kernel
theorem Chr.nw {v : Int32} (h : Chr v) : narrow .char (.int v) = .int v := by obtain ⟨c, h1, h2, rfl⟩ := h; exact ch_nw c (by omega)
theorem cap_ok {k : Nat} (h : k ≤ 60) : nI k - nI 60 ≤ 0 := by
  rw [Int32.le_iff_toInt_le, Int32.toInt_sub, nI_toInt (by omega), nI_toInt (by omega), Int.bmod_def]
  have : (0 : Int32).toInt = 0 := by decide
  omega
def BufR (g : GT) (P : Nat → Prop) (f : Nat → Int32) (n a : Nat) (H : Heap) : Prop := ∃ (ar : Nat) (f1 : Nat → Int32) (m : Int32), P a ∧ gLo g ≤ a ∧ P ar ∧ gLo g ≤ ar ∧ a ≠ ar ∧ Ob g a 9 [.ref ar, .int (nI 0), .int m, .int (nI n)] H ∧ Ar g ar 2 60 f1 H ∧ n ≤ 60 ∧ ∀ j, j < n → f1 j = f j ∧ Chr (f j)
theorem BufR.keep {g : GT} {P Q : Nat → Prop} {f : Nat → Int32} {n a : Nat} {H H1 : Heap} (h : BufR g P f n a H) (c : Chg Q H H1) (d : ∀ q, P q → ¬ Q q) : BufR g P f n a H1 := by
  obtain ⟨ar, f1, m, h1, h2, h3, h4, h5, h6, h7, h8⟩ := h
  exact ⟨ar, f1, m, h1, h2, h3, h4, h5, h6.chg c (d _ h1), h7.chg c (d _ h3), h8⟩
theorem BufR.ext {g : GT} {P : Nat → Prop} {f : Nat → Int32} {n a : Nat} {H H1 : Heap} (h : BufR g P f n a H) (e : Ext H H1) : BufR g P f n a H1 := by
  obtain ⟨ar, f1, m, h1, h2, h3, h4, h5, h6, h7, h8⟩ := h
  exact ⟨ar, f1, m, h1, h2, h3, h4, h5, h6.ext e, h7.ext e, h8⟩
theorem BufR.to {g : GT} {P Q : Nat → Prop} {f : Nat → Int32} {n a : Nat} {H : Heap} (h : BufR g P f n a H) (hP : ∀ q, P q → q < H.size → Q q) : BufR g Q f n a H := by
  obtain ⟨ar, f1, m, h1, h2, h3, h4, h5, h6, h7, h8⟩ := h
  exact ⟨ar, f1, m, hP _ h1 h6.lt, h2, hP _ h3 h7.lt, h4, h5, h6, h7, h8⟩
theorem BufR.recv {g : GT} {s : State} {P : Nat → Prop} {f : Nat → Int32} {n a : Nat} {H : Heap} (h : BufR g P f n a H) (hK : KV g s) : ∃ cellB : Cell, H[a]? = some cellB ∧ cellB.vm.isStatics = false ∧ s.vm.findClass RJ5 = some cellB.cls := by
  obtain ⟨ar, f1, m, h1, h2, h3, h4, h5, h6, h7, h8⟩ := h
  exact h6.recv hK rfl
theorem BufR.chr {g : GT} {P : Nat → Prop} {f : Nat → Int32} {n a : Nat} {H : Heap} (h : BufR g P f n a H) : n ≤ 60 ∧ ∀ j, j < n → Chr (f j) := by
  obtain ⟨ar, f1, m, h1, h2, h3, h4, h5, h6, h7, h8, h9⟩ := h
  exact ⟨h8, fun j hj => (h9 j hj).2⟩
theorem buf_app {f f1 : Nat → Int32} {n : Nat} {v : Int32} (hv : Chr v) (hx : ∀ j, j < n → f1 j = f j ∧ Chr (f j)) : ∀ j, j < n + 1 → upd f1 n (vp_nar .byte v) j = upd f n v j ∧ Chr (upd f n v j) := fun j hj => by
  unfold upd
  by_cases e : j = n
  · rw [if_pos e, if_pos e]; exact ⟨hv.nar, hv⟩
  · rw [if_neg e, if_neg e]; exact hx j (by omega)

set_option maxRecDepth 100000 in
set_option maxHeartbeats 4000000 in
theorem ct_J20_canEncode (l : Launch) (g : GT) (v : Int32) (hv : Chr v) : Ct l g yJ20_canEncode cJ20_canEncode 1 (some .boolean) 1 0 0 [.int v] (fun _ => True) (fun r H H1 => r = some (.int (bI true)) ∧ H1 = H) := by
  refine Ct.of (by decide) (Nat.le_of_ble_eq_true rfl) ?_
  intro p e s m args below meth c X hP ls hl
  have hx := X.1
  have hb := X.2.1
  have hKV := X.2.2.2.2.2.2.2.1.1
  have hL : ∀ q ∈ ([] : List Loc), gLo g ≤ q.base := fun _ h => by cases h
  have hl : lv_has ls 1 [(0, .int v)] := hl
  refine lv_iload_n hx hb dJ20_canEncode_0 rfl (lv_at hl 0 rfl) ?_
  refine lv_sipush (v := nI 255) hx hb dJ20_canEncode_1 (by decide) ?_
  refine lv_icmp_gt (tgt := 11) hx hb dJ20_canEncode_4 (by decide) (fun c_4 => ?_) (fun c_4 => ?_)
  ·
    exact absurd c_4 (by obtain ⟨c, h1, h2, rfl⟩ := hv; rw [Int32.not_lt]; exact Int32.le_iff_toInt_le.mpr (by rw [nI_toInt (by omega), nI_toInt (by omega)]; omega))
  ·
    refine lv_iconst (v := nI 1) hx hb dJ20_canEncode_7 (by decide) ?_
    refine lv_goto (tgt := 12) hx hb dJ20_canEncode_8 (by decide) ?_
    exact r_iret X hL rfl rfl dJ20_canEncode_12 (by omega) (by omega) ⟨v_t rfl, rfl⟩
theorem sb_J20_canEncode : SB yJ20_canEncode cJ20_canEncode 1 (some .boolean) 1 := ⟨q1470, q126, q1471, ⟨by decide, by decide, by decide +kernel⟩⟩

set_option maxRecDepth 100000 in
set_option maxHeartbeats 4000000 in
theorem ct_J4_isLatin1 (l : Launch) (g : GT) (P : Nat → Prop) (f : Nat → Int32) (n a : Nat)  : Ct l g yJ4_isLatin1 cJ4_isLatin1 1 (some .boolean) 1 0 0 [.ref a] (BufR g P f n a) (fun r H H1 => r = some (.int (bI true)) ∧ H1 = H) := by
  refine Ct.of (by decide) (Nat.le_of_ble_eq_true rfl) ?_
  intro p e s m args below meth c X hP ls hl
  have hx := X.1
  have hb := X.2.1
  have hKV := X.2.2.2.2.2.2.2.1.1
  have hL : ∀ q ∈ ([] : List Loc), gLo g ≤ q.base := fun _ h => by cases h
  obtain ⟨ar, f1, m, p1, l1, p2, l2, hne, ob, aq, hn, hx1⟩ := hP
  have hl : lv_has ls 1 [(0, .ref a)] := hl
  refine r_gs (v := .int (nI 1)) X hL hKV.2.2.2.2.2.1 q256 (fun _ h => h) dJ4_isLatin1_0 ?_
  refine n_ifeq (tgt := 17) X dJ4_isLatin1_3 (by decide) (by omega) (fun c_3 => ?_) (fun c_3 => ?_)
  ·
    exact absurd c_3 (by omega)
  ·
    refine lv_aload_n hx hb dJ4_isLatin1_6 rfl (lv_at hl 0 rfl) ?_
    refine r_get (C := RJ5) (T := TJ5) (N := 4) (ci := 9) X in_J5 rfl 1 (Nat.le_of_ble_eq_true rfl) q266 (fun _ h => h) ob rfl dJ4_isLatin1_7 ?_
    refine n_ifne (tgt := 17) X dJ4_isLatin1_10 (by decide) (by omega) (fun c_10 => ?_) (fun c_10 => ?_)
    ·
      exact absurd c_10 (by omega)
    ·
      refine lv_iconst (v := nI 1) hx hb dJ4_isLatin1_13 (by decide) ?_
      refine lv_goto (tgt := 18) hx hb dJ4_isLatin1_14 (by decide) ?_
      exact r_iret X hL rfl rfl dJ4_isLatin1_18 (by omega) (by omega) ⟨v_t rfl, rfl⟩
theorem vc_J4_isLatin1 : VBC yJ4_isLatin1 cJ4_isLatin1 1 (some .boolean) 0 := ⟨q675, q107, q678, ⟨by decide, by decide, by decide +kernel⟩⟩

set_option maxRecDepth 100000 in
set_option maxHeartbeats 4000000 in
theorem ct_J4_length (l : Launch) (g : GT) (P : Nat → Prop) (f : Nat → Int32) (n a : Nat)  : Ct l g yJ4_length cJ4_length 1 (some .int) 1 0 0 [.ref a] (BufR g P f n a) (fun r H H1 => r = some (.int (nI n)) ∧ H1 = H) := by
  refine Ct.of (by decide) (Nat.le_of_ble_eq_true rfl) ?_
  intro p e s m args below meth c X hP ls hl
  have hx := X.1
  have hb := X.2.1
  have hKV := X.2.2.2.2.2.2.2.1.1
  have hL : ∀ q ∈ ([] : List Loc), gLo g ≤ q.base := fun _ h => by cases h
  obtain ⟨ar, f1, m, p1, l1, p2, l2, hne, ob, aq, hn, hx1⟩ := hP
  have hl : lv_has ls 1 [(0, .ref a)] := hl
  refine lv_aload_n hx hb dJ4_length_0 rfl (lv_at hl 0 rfl) ?_
  refine r_get (C := RJ5) (T := TJ5) (N := 4) (ci := 9) X in_J5 rfl 3 (Nat.le_of_ble_eq_true rfl) q269 (fun _ h => h) ob rfl dJ4_length_1 ?_
  exact r_iret X hL rfl rfl dJ4_length_4 (by omega) (by omega) ⟨rfl, rfl⟩
theorem vc_J4_length : VBC yJ4_length cJ4_length 1 (some .int) 0 := ⟨q626, q107, q627, ⟨by decide, by decide, by decide +kernel⟩⟩

set_option maxRecDepth 100000 in
set_option maxHeartbeats 4000000 in
theorem ct_J5_length (l : Launch) (g : GT) (P : Nat → Prop) (f : Nat → Int32) (n a : Nat)  : Ct l g yJ5_length cJ5_length 1 (some .int) 2 0 0 [.ref a] (BufR g P f n a) (fun r H H1 => r = some (.int (nI n)) ∧ H1 = H) := by
  refine Ct.of (by decide) (Nat.le_of_ble_eq_true rfl) ?_
  intro p e s m args below meth c X hP ls hl
  have hx := X.1
  have hb := X.2.1
  have hKV := X.2.2.2.2.2.2.2.1.1
  have hL : ∀ q ∈ ([] : List Loc), gLo g ≤ q.base := fun _ h => by cases h
  obtain ⟨ar, f1, m, p1, l1, p2, l2, hne, ob, aq, hn, hx1⟩ := hP
  have hl : lv_has ls 1 [(0, .ref a)] := hl
  refine lv_aload_n hx hb dJ5_length_0 rfl (lv_at hl 0 rfl) ?_
  refine Cp.callSU (C := RJ5) q2300 q278 (by decide) (sbc_at hKV) (v := .int (nI n)) (ct_J4_length l g P f n a ) X hL hl vc_J4_length q625 (ob.recv hKV rfl) rfl rfl (Nat.le_of_ble_eq_true rfl) dJ5_length_1 ⟨Nat.le_of_ble_eq_true rfl, Nat.le_of_ble_eq_true rfl⟩ (by omega) (by omega) ⟨ar, f1, m, p1, l1, p2, l2, hne, ob, aq, hn, hx1⟩ (fun locs hL => ?_)
  exact r_iret X hL rfl rfl dJ5_length_4 (by omega) (by omega) ⟨rfl, rfl⟩
theorem vb_J5_length : VB yJ5_length cJ5_length 1 (some .int) 0 := ⟨q622, q623, q108, q624, ⟨by decide, by decide, by decide +kernel⟩⟩

set_option maxRecDepth 100000 in
set_option maxHeartbeats 4000000 in
theorem ct_J4_ensureCapacityInternal (l : Launch) (g : GT) (P : Nat → Prop) (f : Nat → Int32) (n a : Nat) (k : Nat) (hk : k ≤ 60) : Ct l g yJ4_ensureCapacityInternal cJ4_ensureCapacityInternal 3 none 1 0 0 [.ref a, .int (nI k)] (BufR g P f n a) (fun r H H1 => r = none ∧ H1 = H) := by
  refine Ct.of (by decide) (Nat.le_of_ble_eq_true rfl) ?_
  intro p e s m args below meth c X hP ls hl
  have hx := X.1
  have hb := X.2.1
  have hKV := X.2.2.2.2.2.2.2.1.1
  have hL : ∀ q ∈ ([] : List Loc), gLo g ≤ q.base := fun _ h => by cases h
  obtain ⟨ar, f1, m, p1, l1, p2, l2, hne, ob, aq, hn, hx1⟩ := hP
  have hl : lv_has ls 3 [(0, .ref a), (1, .int (nI k))] := hl
  refine lv_aload_n hx hb dJ4_ensureCapacityInternal_0 rfl (lv_at hl 0 rfl) ?_
  refine r_get (C := RJ5) (T := TJ5) (N := 4) (ci := 9) X in_J5 rfl 0 (Nat.le_of_ble_eq_true rfl) q265 (fun _ h => h) ob rfl dJ4_ensureCapacityInternal_1 ?_
  refine r_len (k := 2) (v := nI 60) X aq rfl rfl dJ4_ensureCapacityInternal_4 ?_
  refine lv_aload_n hx hb dJ4_ensureCapacityInternal_5 rfl (lv_at hl 0 rfl) ?_
  refine r_get (C := RJ5) (T := TJ5) (N := 4) (ci := 9) X in_J5 rfl 1 (Nat.le_of_ble_eq_true rfl) q266 (fun _ h => h) ob rfl dJ4_ensureCapacityInternal_6 ?_
  refine lv_ishr hx hb dJ4_ensureCapacityInternal_9 ?_
  refine W.stk (w := (nI 60)) (by decide) ?_
  refine lv_istore_n (lv' := [(2, .int _), (0, .ref _), (1, .int _)]) hx hb dJ4_ensureCapacityInternal_10 rfl hl (by decide) rfl (fun ls hl => ?_)
  refine lv_iload_n hx hb dJ4_ensureCapacityInternal_11 rfl (lv_at hl 2 rfl) ?_
  refine lv_iload_n hx hb dJ4_ensureCapacityInternal_12 rfl (lv_at hl 0 rfl) ?_
  refine lv_isub hx hb dJ4_ensureCapacityInternal_13 ?_
  refine lv_if_le (tgt := 38) hx hb dJ4_ensureCapacityInternal_14 (by decide) (fun c_14 => ?_) (fun c_14 => ?_)
  ·
    exact r_vret X hL dJ4_ensureCapacityInternal_38 (by omega) (by omega) ⟨rfl, rfl⟩
  ·
    exact absurd (cap_ok hk) c_14
theorem vc_J4_ensureCapacityInternal : VBC yJ4_ensureCapacityInternal cJ4_ensureCapacityInternal 3 none 1 := ⟨q658, q107, q659, ⟨by decide, by decide, by decide +kernel⟩⟩

set_option maxRecDepth 100000 in
set_option maxHeartbeats 4000000 in
theorem ct_J4_append_3 (l : Launch) (g : GT) (P : Nat → Prop) (f : Nat → Int32) (n a : Nat) (v : Int32) (hv : Chr v) (hn1 : n < 60) : Ct l g yJ4_append_3 cJ4_append_3 2 (some (.object "java/lang/AbstractStringBuilder")) 2 0 0 [.ref a, .int v] (BufR g P f n a) (fun r H H1 => r = some (.ref a) ∧ BufR g P (upd f n v) (n + 1) a H1 ∧ Chg P H H1) := by
  refine Ct.of (by decide) (Nat.le_of_ble_eq_true rfl) ?_
  intro p e s m args below meth c X hP ls hl
  have hx := X.1
  have hb := X.2.1
  have hKV := X.2.2.2.2.2.2.2.1.1
  have hL : ∀ q ∈ ([] : List Loc), gLo g ≤ q.base := fun _ h => by cases h
  obtain ⟨ar, f1, m, p1, l1, p2, l2, hne, ob, aq, hn, hx1⟩ := hP
  have hl : lv_has ls 2 [(0, .ref a), (1, .int v)] := hl
  have hC : Chg P s.heap s.heap := Chg.rfl'
  refine lv_aload_n hx hb dJ4_append_3_0 rfl (lv_at hl 0 rfl) ?_
  refine lv_aload_n hx hb dJ4_append_3_1 rfl (lv_at hl 0 rfl) ?_
  refine r_get (C := RJ5) (T := TJ5) (N := 4) (ci := 9) X in_J5 rfl 3 (Nat.le_of_ble_eq_true rfl) q269 (fun _ h => h) ob rfl dJ4_append_3_2 ?_
  refine lv_iconst (v := nI 1) hx hb dJ4_append_3_5 (by decide) ?_
  refine n_iadd X dJ4_append_3_6 ?_
  refine Ct.callVC (C := RJ5) (ens_sel X.2.2.2.2.1 hKV.2.1) (ct_J4_ensureCapacityInternal l g P f n a (n + 1) (by omega)) X hL hl vc_J4_ensureCapacityInternal q656 (ob.recv hKV rfl) rfl rfl (Nat.le_of_ble_eq_true rfl) dJ4_append_3_7 ⟨Nat.le_of_ble_eq_true rfl, Nat.le_of_ble_eq_true rfl⟩ (by omega) (by omega) ⟨ar, f1, m, p1, l1, p2, l2, hne, ob, aq, hn, hx1⟩ (fun r H locs hL hp => ?_)
  obtain ⟨rfl, rfl⟩ := hp
  refine lv_aload_n hx hb dJ4_append_3_10 rfl (lv_at hl 0 rfl) ?_
  refine Cp.callVC (C := RJ5) (X.2.2.2.2.1 _ q677) (v := .int (bI true)) (ct_J4_isLatin1 l g P f n a ) X hL hl vc_J4_isLatin1 q674 (ob.recv hKV rfl) rfl rfl (Nat.le_of_ble_eq_true rfl) dJ4_append_3_11 ⟨Nat.le_of_ble_eq_true rfl, Nat.le_of_ble_eq_true rfl⟩ (by omega) (by omega) ⟨ar, f1, m, p1, l1, p2, l2, hne, ob, aq, hn, hx1⟩ (fun locs hL => ?_)
  refine b_ifeq (tgt := 45) X dJ4_append_3_14 (by decide) (fun c_14 => ?_) (fun c_14 => ?_)
  ·
    exact Bool.noConfusion c_14
  ·
    refine lv_iload_n hx hb dJ4_append_3_17 rfl (lv_at hl 1 rfl) ?_
    refine Cp.callS (v := .int (bI true)) (ct_J20_canEncode l g v hv) X hL hl sb_J20_canEncode q1469 rfl rfl (Nat.le_of_ble_eq_true rfl) dJ4_append_3_18 ⟨Nat.le_of_ble_eq_true rfl, Nat.le_of_ble_eq_true rfl⟩ (by omega) (by omega) trivial (fun locs hL => ?_)
    refine b_ifeq (tgt := 45) X dJ4_append_3_21 (by decide) (fun c_21 => ?_) (fun c_21 => ?_)
    ·
      exact Bool.noConfusion c_21
    ·
      refine lv_aload_n hx hb dJ4_append_3_24 rfl (lv_at hl 0 rfl) ?_
      refine r_get (C := RJ5) (T := TJ5) (N := 4) (ci := 9) X in_J5 rfl 0 (Nat.le_of_ble_eq_true rfl) q265 (fun _ h => h) ob rfl dJ4_append_3_25 ?_
      refine lv_aload_n hx hb dJ4_append_3_28 rfl (lv_at hl 0 rfl) ?_
      refine lv_dup hx hb dJ4_append_3_29 rfl ?_
      refine r_get (C := RJ5) (T := TJ5) (N := 4) (ci := 9) X in_J5 rfl 3 (Nat.le_of_ble_eq_true rfl) q269 (fun _ h => h) ob rfl dJ4_append_3_30 ?_
      refine lv_dup_x1 hx hb dJ4_append_3_33 rfl rfl ?_
      refine lv_iconst (v := nI 1) hx hb dJ4_append_3_34 (by decide) ?_
      refine n_iadd X dJ4_append_3_35 ?_
      refine r_put (C := RJ5) (T := TJ5) (N := 4) (ci := 9) X in_J5 tyJ5 tyJ5_ok nmJ5 rfl 3 (Nat.le_of_ble_eq_true rfl) q269 (fun _ h => h) rfl hL ob l1 rfl rfl (Nat.le_of_ble_eq_true rfl) dJ4_append_3_36 (fun H locs hL h1 h2 => ?_)
      have ob : Ob g a 9 [.ref ar, .int (nI 0), .int m, .int (nI (n + 1))] H := h1
      have aq := aq.on h2 (Ne.symm hne)
      have hC := hC.trans (h2.chg p1)
      refine lv_iload_n hx hb dJ4_append_3_39 rfl (lv_at hl 1 rfl) ?_
      refine lv_i2b (v := v) hx hb dJ4_append_3_40 hv.i2b ?_
      refine r_bst X hL aq l2 n (nI_cl (by omega) rfl) (nI_nn (by omega) rfl) (by omega) dJ4_append_3_41 (fun H locs hL h1 h2 => ?_)
      have aq : Ar g ar 2 60 (upd f1 n (vp_nar .byte v)) H := h1
      have ob := ob.on h2 hne
      have hC := hC.trans (h2.chg p2)
      refine lv_goto (tgt := 75) hx hb dJ4_append_3_42 (by decide) ?_
      refine lv_aload_n hx hb dJ4_append_3_75 rfl (lv_at hl 0 rfl) ?_
      exact r_aret X hL rfl (Or.inl ⟨_, rfl⟩) (Or.inr ⟨_, rfl⟩) dJ4_append_3_76 (by omega) (by omega) ⟨rfl, ⟨ar, _, m, p1, l1, p2, l2, hne, ob, aq, by omega, buf_app hv hx1⟩, hC⟩
theorem vc_J4_append_3 : VBC yJ4_append_3 cJ4_append_3 2 (some (.object "java/lang/AbstractStringBuilder")) 1 := ⟨q1467, q107, q1468, ⟨by decide, by decide, by decide +kernel⟩⟩

set_option maxRecDepth 100000 in
set_option maxHeartbeats 4000000 in
theorem ct_J5_append_3 (l : Launch) (g : GT) (P : Nat → Prop) (f : Nat → Int32) (n a : Nat) (v : Int32) (hv : Chr v) (hn1 : n < 60) : Ct l g yJ5_append_3 cJ5_append_3 2 (some (.object "java/lang/StringBuilder")) 3 0 0 [.ref a, .int v] (BufR g P f n a) (fun r H H1 => r = some (.ref a) ∧ BufR g P (upd f n v) (n + 1) a H1 ∧ Chg P H H1) := by
  refine Ct.of (by decide) (Nat.le_of_ble_eq_true rfl) ?_
  intro p e s m args below meth c X hP ls hl
  have hx := X.1
  have hb := X.2.1
  have hKV := X.2.2.2.2.2.2.2.1.1
  have hL : ∀ q ∈ ([] : List Loc), gLo g ≤ q.base := fun _ h => by cases h
  obtain ⟨ar, f1, m, p1, l1, p2, l2, hne, ob, aq, hn, hx1⟩ := hP
  have hl : lv_has ls 2 [(0, .ref a), (1, .int v)] := hl
  refine lv_aload_n hx hb dJ5_append_3_0 rfl (lv_at hl 0 rfl) ?_
  refine lv_iload_n hx hb dJ5_append_3_1 rfl (lv_at hl 1 rfl) ?_
  refine Ct.callSU (C := RJ5) q2312 q278 (by decide) (sbc_at hKV) (ct_J4_append_3 l g P f n a v hv hn1) X hL hl vc_J4_append_3 q1466 (ob.recv hKV rfl) rfl rfl (Nat.le_of_ble_eq_true rfl) dJ5_append_3_2 ⟨Nat.le_of_ble_eq_true rfl, Nat.le_of_ble_eq_true rfl⟩ (by omega) (by omega) ⟨ar, f1, m, p1, l1, p2, l2, hne, ob, aq, hn, hx1⟩ (fun r H locs hL hp => ?_)
  obtain ⟨rfl, hbf, hC1⟩ := hp
  refine lv_pop hx hb dJ5_append_3_5 rfl ?_
  refine lv_aload_n hx hb dJ5_append_3_6 rfl (lv_at hl 0 rfl) ?_
  exact r_aret X hL rfl (Or.inl ⟨_, rfl⟩) (Or.inr ⟨_, rfl⟩) dJ5_append_3_7 (by omega) (by omega) ⟨rfl, hbf, hC1⟩
theorem vb_J5_append_3 : VB yJ5_append_3 cJ5_append_3 2 (some (.object "java/lang/StringBuilder")) 1 := ⟨q1463, q1464, q108, q1465, ⟨by decide, by decide, by decide +kernel⟩⟩

set_option maxRecDepth 100000 in
set_option maxHeartbeats 4000000 in
theorem ct_J14_checkIndexr (l : Launch) (g : GT) (i k w : Nat) (hi : i < k) (hk : k < 2 ^ 31) : Ct l g yJ14_checkIndex cJ14_checkIndex 3 (some .int) 1 0 0 [.int (nI i), .int (nI k), .ref w] (fun _ => True) (fun r H H1 => r = some (.int (nI i)) ∧ H1 = H) := by
  refine Ct.of (by decide) (Nat.le_of_ble_eq_true rfl) ?_
  intro p e s m args below meth c X hP ls hl
  have hx := X.1
  have hb := X.2.1
  have hKV := X.2.2.2.2.2.2.2.1.1
  have hL : ∀ q ∈ ([] : List Loc), gLo g ≤ q.base := fun _ h => by cases h
  have hl : lv_has ls 3 [(0, .int (nI i)), (1, .int (nI k)), (2, .ref w)] := hl
  refine lv_iload_n hx hb dJ14_checkIndex_0 rfl (lv_at hl 0 rfl) ?_
  refine n_iflt (tgt := 9) X dJ14_checkIndex_1 (by decide) (by omega) (fun c_1 => ?_) (fun c_1 => ?_)
  ·
    exact c_1.elim
  ·
    refine lv_iload_n hx hb dJ14_checkIndex_4 rfl (lv_at hl 0 rfl) ?_
    refine lv_iload_n hx hb dJ14_checkIndex_5 rfl (lv_at hl 1 rfl) ?_
    refine n_icmp_lt (tgt := 16) X dJ14_checkIndex_6 (by decide) (by omega) (by omega) (fun c_6 => ?_) (fun c_6 => ?_)
    ·
      refine lv_iload_n hx hb dJ14_checkIndex_16 rfl (lv_at hl 0 rfl) ?_
      exact r_iret X hL rfl rfl dJ14_checkIndex_17 (by omega) (by omega) ⟨rfl, rfl⟩
    ·
      exact absurd hi (by omega)

set_option maxRecDepth 100000 in
set_option maxHeartbeats 4000000 in
theorem ct_J6_checkIndex (l : Launch) (g : GT) (i k : Nat) (hi : i < k) (hk : k < 2 ^ 31) : Ct l g yJ6_checkIndex cJ6_checkIndex 2 none 2 0 0 [.int (nI i), .int (nI k)] (fun _ => True) (fun r H H1 => r = none ∧ H1 = H) := by
  refine Ct.of (by decide) (Nat.le_of_ble_eq_true rfl) ?_
  intro p e s m args below meth c X hP ls hl
  have hx := X.1
  have hb := X.2.1
  have hKV := X.2.2.2.2.2.2.2.1.1
  have hL : ∀ q ∈ ([] : List Loc), gLo g ≤ q.base := fun _ h => by cases h
  have hl : lv_has ls 2 [(0, .int (nI i)), (1, .int (nI k))] := hl
  rcases hKV.2.2.2.2.2.2.1 with hz | ⟨tz, hz⟩
  · refine lv_iload_n hx hb dJ6_checkIndex_0 rfl (lv_at hl 0 rfl) ?_
    refine lv_iload_n hx hb dJ6_checkIndex_1 rfl (lv_at hl 1 rfl) ?_
    refine r_gs X hL hz q691 (fun _ h => h) dJ6_checkIndex_2 ?_
    refine Cp.callS (v := .int (nI i)) (ct_J14_checkIndex l g i k hi hk) X hL hl sb_J14_checkIndex q948 rfl rfl (Nat.le_of_ble_eq_true rfl) dJ6_checkIndex_5 ⟨Nat.le_of_ble_eq_true rfl, Nat.le_of_ble_eq_true rfl⟩ (by omega) (by omega) trivial (fun locs hL => ?_)
    refine lv_pop hx hb dJ6_checkIndex_8 rfl ?_
    exact r_vret X hL dJ6_checkIndex_9 (by omega) (by omega) ⟨rfl, rfl⟩
  
  · refine lv_iload_n hx hb dJ6_checkIndex_0 rfl (lv_at hl 0 rfl) ?_
    refine lv_iload_n hx hb dJ6_checkIndex_1 rfl (lv_at hl 1 rfl) ?_
    refine r_gs X hL hz q691 (fun _ h => h) dJ6_checkIndex_2 ?_
    refine Cp.callS (v := .int (nI i)) (ct_J14_checkIndexr l g i k tz hi hk) X hL hl sb_J14_checkIndex q948 rfl rfl (Nat.le_of_ble_eq_true rfl) dJ6_checkIndex_5 ⟨Nat.le_of_ble_eq_true rfl, Nat.le_of_ble_eq_true rfl⟩ (by omega) (by omega) trivial (fun locs hL => ?_)
    refine lv_pop hx hb dJ6_checkIndex_8 rfl ?_
    exact r_vret X hL dJ6_checkIndex_9 (by omega) (by omega) ⟨rfl, rfl⟩
theorem sb_J6_checkIndex : SB yJ6_checkIndex cJ6_checkIndex 2 none 2 := ⟨q946, q109, q947, ⟨by decide, by decide, by decide +kernel⟩⟩

set_option maxRecDepth 100000 in
set_option maxHeartbeats 4000000 in
theorem ct_J4_charAt (l : Launch) (g : GT) (P : Nat → Prop) (f : Nat → Int32) (n a : Nat) (i : Nat) (hi : i < n) : Ct l g yJ4_charAt cJ4_charAt 5 (some .char) 3 0 0 [.ref a, .int (nI i)] (BufR g P f n a) (fun r H H1 => r = some (.int (f i)) ∧ H1 = H) := by
  refine Ct.of (by decide) (Nat.le_of_ble_eq_true rfl) ?_
  intro p e s m args below meth c X hP ls hl
  have hx := X.1
  have hb := X.2.1
  have hKV := X.2.2.2.2.2.2.2.1.1
  have hL : ∀ q ∈ ([] : List Loc), gLo g ≤ q.base := fun _ h => by cases h
  obtain ⟨ar, f1, m, p1, l1, p2, l2, hne, ob, aq, hn, hx1⟩ := hP
  have hl : lv_has ls 5 [(0, .ref a), (1, .int (nI i))] := hl
  refine lv_aload_n hx hb dJ4_charAt_0 rfl (lv_at hl 0 rfl) ?_
  refine r_get (C := RJ5) (T := TJ5) (N := 4) (ci := 9) X in_J5 rfl 1 (Nat.le_of_ble_eq_true rfl) q266 (fun _ h => h) ob rfl dJ4_charAt_1 ?_
  refine lv_istore_n (lv' := [(2, .int _), (0, .ref _), (1, .int _)]) hx hb dJ4_charAt_4 rfl hl (by decide) rfl (fun ls hl => ?_)
  refine lv_aload_n hx hb dJ4_charAt_5 rfl (lv_at hl 1 rfl) ?_
  refine r_get (C := RJ5) (T := TJ5) (N := 4) (ci := 9) X in_J5 rfl 0 (Nat.le_of_ble_eq_true rfl) q265 (fun _ h => h) ob rfl dJ4_charAt_6 ?_
  refine lv_astore_n (lv' := [(3, .ref _), (2, .int _), (0, .ref _), (1, .int _)]) hx hb dJ4_charAt_9 rfl hl (by decide) rfl (fun ls hl => ?_)
  refine lv_aload_n hx hb dJ4_charAt_10 rfl (lv_at hl 2 rfl) ?_
  refine r_get (C := RJ5) (T := TJ5) (N := 4) (ci := 9) X in_J5 rfl 3 (Nat.le_of_ble_eq_true rfl) q269 (fun _ h => h) ob rfl dJ4_charAt_11 ?_
  refine lv_aload_n hx hb dJ4_charAt_14 rfl (lv_at hl 0 rfl) ?_
  refine r_len (k := 2) (v := nI 60) X aq rfl rfl dJ4_charAt_15 ?_
  refine lv_iload_n hx hb dJ4_charAt_16 rfl (lv_at hl 1 rfl) ?_
  refine lv_ishr hx hb dJ4_charAt_17 ?_
  refine W.stk (w := (nI 60)) (by decide) ?_
  refine va_mmin hx hb (X.2.2.1.trans hl.1.symm) X.2.2.2.1 (X.2.2.2.2.1 _ q944) (X.2.2.2.2.1 _ q415) (X.2.2.2.2.1 _ q120) (X.2.2.2.2.1 _ q416) (Nat.le_of_ble_eq_true rfl) (Nat.le_of_ble_eq_true rfl) (by show 0 ≤ 0; omega) (by show 0 ≤ 0; omega) dJ4_charAt_18 ?_
  refine W.stk (w := mnI (nI n) (nI 60)) rfl ?_
  refine W.stk (w := (nI n)) (by rw [mnI_n (by omega) (by omega), Nat.min_eq_left hn]) ?_
  refine lv_istore (lv' := [(4, .int _), (3, .ref _), (2, .int _), (0, .ref _), (1, .int _)]) hx hb dJ4_charAt_21 hl (by decide) rfl (fun ls hl => ?_)
  refine lv_iload_n hx hb dJ4_charAt_23 rfl (lv_at hl 4 rfl) ?_
  refine lv_iload hx hb dJ4_charAt_24 (lv_at hl 0 rfl) ?_
  refine Ct.callS (ct_J6_checkIndex l g i n hi (by omega)) X hL hl sb_J6_checkIndex q945 rfl rfl (Nat.le_of_ble_eq_true rfl) dJ4_charAt_26 ⟨Nat.le_of_ble_eq_true rfl, Nat.le_of_ble_eq_true rfl⟩ (by omega) (by omega) trivial (fun r H locs hL hp => ?_)
  obtain ⟨rfl, rfl⟩ := hp
  refine lv_iload_n hx hb dJ4_charAt_29 rfl (lv_at hl 2 rfl) ?_
  refine n_ifne (tgt := 42) X dJ4_charAt_30 (by decide) (by omega) (fun c_30 => ?_) (fun c_30 => ?_)
  ·
    exact absurd c_30 (by omega)
  ·
    refine lv_aload_n hx hb dJ4_charAt_33 rfl (lv_at hl 1 rfl) ?_
    refine lv_iload_n hx hb dJ4_charAt_34 rfl (lv_at hl 4 rfl) ?_
    refine r_bld X aq i (nI_cl (by omega) rfl) (nI_nn (by omega) rfl) (by omega) dJ4_charAt_35 ?_
    rw [show f1 i = (f i) from ((hx1 i hi).1)]
    refine lv_sipush (v := nI 255) hx hb dJ4_charAt_36 (by decide) ?_
    refine lv_iand hx hb dJ4_charAt_39 ?_
    refine W.stk (w := (f i)) ((hx1 i hi).2.and) ?_
    refine lv_i2c (v := f i) hx hb dJ4_charAt_40 ((hx1 i hi).2.i2c) ?_
    exact r_iret X hL rfl ((hx1 i hi).2.nw) dJ4_charAt_41 (by omega) (by omega) ⟨rfl, rfl⟩
theorem vc_J4_charAt : VBC yJ4_charAt cJ4_charAt 5 (some .char) 1 := ⟨q942, q107, q943, ⟨by decide, by decide, by decide +kernel⟩⟩

set_option maxRecDepth 100000 in
set_option maxHeartbeats 4000000 in
theorem ct_J5_charAt (l : Launch) (g : GT) (P : Nat → Prop) (f : Nat → Int32) (n a : Nat) (i : Nat) (hi : i < n) : Ct l g yJ5_charAt cJ5_charAt 2 (some .char) 4 0 0 [.ref a, .int (nI i)] (BufR g P f n a) (fun r H H1 => r = some (.int (f i)) ∧ H1 = H) := by
  refine Ct.of (by decide) (Nat.le_of_ble_eq_true rfl) ?_
  intro p e s m args below meth c X hP ls hl
  have hx := X.1
  have hb := X.2.1
  have hKV := X.2.2.2.2.2.2.2.1.1
  have hL : ∀ q ∈ ([] : List Loc), gLo g ≤ q.base := fun _ h => by cases h
  obtain ⟨ar, f1, m, p1, l1, p2, l2, hne, ob, aq, hn, hx1⟩ := hP
  have hl : lv_has ls 2 [(0, .ref a), (1, .int (nI i))] := hl
  refine lv_aload_n hx hb dJ5_charAt_0 rfl (lv_at hl 0 rfl) ?_
  refine lv_iload_n hx hb dJ5_charAt_1 rfl (lv_at hl 1 rfl) ?_
  refine Ct.callSU (C := RJ5) q2311 q278 (by decide) (sbc_at hKV) (ct_J4_charAt l g P f n a i hi) X hL hl vc_J4_charAt q941 (ob.recv hKV rfl) rfl rfl (Nat.le_of_ble_eq_true rfl) dJ5_charAt_2 ⟨Nat.le_of_ble_eq_true rfl, Nat.le_of_ble_eq_true rfl⟩ (by omega) (by omega) ⟨ar, f1, m, p1, l1, p2, l2, hne, ob, aq, hn, hx1⟩ (fun r H locs hL hp => ?_)
  obtain ⟨rfl, rfl⟩ := hp
  exact r_iret X hL rfl ((hx1 i hi).2.nw) dJ5_charAt_5 (by omega) (by omega) ⟨rfl, rfl⟩
theorem vb_J5_charAt : VB yJ5_charAt cJ5_charAt 2 (some .char) 1 := ⟨q938, q939, q108, q940, ⟨by decide, by decide, by decide +kernel⟩⟩

set_option maxRecDepth 100000 in
set_option maxHeartbeats 4000000 in
theorem ct_J4_setLength (l : Launch) (g : GT) (P : Nat → Prop) (f : Nat → Int32) (n a : Nat)  : Ct l g yJ4_setLength cJ4_setLength 2 none 2 0 0 [.ref a, .int (nI 0)] (BufR g P f n a) (fun r H H1 => r = none ∧ (∀ f, BufR g P f 0 a H1) ∧ Chg P H H1) := by
  refine Ct.of (by decide) (Nat.le_of_ble_eq_true rfl) ?_
  intro p e s m args below meth c X hP ls hl
  have hx := X.1
  have hb := X.2.1
  have hKV := X.2.2.2.2.2.2.2.1.1
  have hL : ∀ q ∈ ([] : List Loc), gLo g ≤ q.base := fun _ h => by cases h
  obtain ⟨ar, f1, m, p1, l1, p2, l2, hne, ob, aq, hn, hx1⟩ := hP
  have hl : lv_has ls 2 [(0, .ref a), (1, .int (nI 0))] := hl
  have hC : Chg P s.heap s.heap := Chg.rfl'
  refine lv_iload_n hx hb dJ4_setLength_0 rfl (lv_at hl 1 rfl) ?_
  refine n_ifge (tgt := 13) X dJ4_setLength_1 (by decide) (by omega) (fun c_1 => ?_) (fun c_1 => ?_)
  ·
    refine lv_aload_n hx hb dJ4_setLength_13 rfl (lv_at hl 0 rfl) ?_
    refine lv_iload_n hx hb dJ4_setLength_14 rfl (lv_at hl 1 rfl) ?_
    refine Ct.callVC (C := RJ5) (ens_sel X.2.2.2.2.1 hKV.2.1) (ct_J4_ensureCapacityInternal l g P f n a 0 (by omega)) X hL hl vc_J4_ensureCapacityInternal q656 (ob.recv hKV rfl) rfl rfl (Nat.le_of_ble_eq_true rfl) dJ4_setLength_15 ⟨Nat.le_of_ble_eq_true rfl, Nat.le_of_ble_eq_true rfl⟩ (by omega) (by omega) ⟨ar, f1, m, p1, l1, p2, l2, hne, ob, aq, hn, hx1⟩ (fun r H locs hL hp => ?_)
    obtain ⟨rfl, rfl⟩ := hp
    refine lv_aload_n hx hb dJ4_setLength_18 rfl (lv_at hl 0 rfl) ?_
    refine r_get (C := RJ5) (T := TJ5) (N := 4) (ci := 9) X in_J5 rfl 3 (Nat.le_of_ble_eq_true rfl) q269 (fun _ h => h) ob rfl dJ4_setLength_19 ?_
    refine lv_iload_n hx hb dJ4_setLength_22 rfl (lv_at hl 1 rfl) ?_
    refine n_icmp_ge (tgt := 63) X dJ4_setLength_23 (by decide) (by omega) (by omega) (fun c_23 => ?_) (fun c_23 => ?_)
    ·
      refine lv_aload_n hx hb dJ4_setLength_63 rfl (lv_at hl 0 rfl) ?_
      refine r_get (C := RJ5) (T := TJ5) (N := 4) (ci := 9) X in_J5 rfl 3 (Nat.le_of_ble_eq_true rfl) q269 (fun _ h => h) ob rfl dJ4_setLength_64 ?_
      refine lv_iload_n hx hb dJ4_setLength_67 rfl (lv_at hl 1 rfl) ?_
      refine n_icmp_le (tgt := 76) X dJ4_setLength_68 (by decide) (by omega) (by omega) (fun c_68 => ?_) (fun c_68 => ?_)
      ·
        refine lv_aload_n hx hb dJ4_setLength_76 rfl (lv_at hl 0 rfl) ?_
        refine lv_iload_n hx hb dJ4_setLength_77 rfl (lv_at hl 1 rfl) ?_
        refine r_put (C := RJ5) (T := TJ5) (N := 4) (ci := 9) X in_J5 tyJ5 tyJ5_ok nmJ5 rfl 3 (Nat.le_of_ble_eq_true rfl) q269 (fun _ h => h) rfl hL ob l1 rfl rfl (Nat.le_of_ble_eq_true rfl) dJ4_setLength_78 (fun H locs hL h1 h2 => ?_)
        have ob : Ob g a 9 [.ref ar, .int (nI 0), .int m, .int (nI 0)] H := h1
        have aq := aq.on h2 (Ne.symm hne)
        have hC := hC.trans (h2.chg p1)
        exact r_vret X hL dJ4_setLength_81 (by omega) (by omega) ⟨rfl, fun f => ⟨ar, f1, _, p1, l1, p2, l2, hne, ob, aq, by omega, fun j hj => absurd hj (Nat.not_lt_zero _)⟩, hC⟩
      ·
        refine lv_aload_n hx hb dJ4_setLength_71 rfl (lv_at hl 0 rfl) ?_
        refine lv_iconst (v := nI 1) hx hb dJ4_setLength_72 (by decide) ?_
        refine r_put (C := RJ5) (T := TJ5) (N := 4) (ci := 9) X in_J5 tyJ5 tyJ5_ok nmJ5 rfl 2 (Nat.le_of_ble_eq_true rfl) q267 (fun _ h => h) rfl hL ob l1 rfl rfl (Nat.le_of_ble_eq_true rfl) dJ4_setLength_73 (fun H locs hL h1 h2 => ?_)
        have ob : Ob g a 9 [.ref ar, .int (nI 0), .int (nI 1), .int (nI n)] H := h1
        have aq := aq.on h2 (Ne.symm hne)
        have hC := hC.trans (h2.chg p1)
        refine lv_aload_n hx hb dJ4_setLength_76 rfl (lv_at hl 0 rfl) ?_
        refine lv_iload_n hx hb dJ4_setLength_77 rfl (lv_at hl 1 rfl) ?_
        refine r_put (C := RJ5) (T := TJ5) (N := 4) (ci := 9) X in_J5 tyJ5 tyJ5_ok nmJ5 rfl 3 (Nat.le_of_ble_eq_true rfl) q269 (fun _ h => h) rfl hL ob l1 rfl rfl (Nat.le_of_ble_eq_true rfl) dJ4_setLength_78 (fun H locs hL h1 h2 => ?_)
        have ob : Ob g a 9 [.ref ar, .int (nI 0), .int (nI 1), .int (nI 0)] H := h1
        have aq := aq.on h2 (Ne.symm hne)
        have hC := hC.trans (h2.chg p1)
        exact r_vret X hL dJ4_setLength_81 (by omega) (by omega) ⟨rfl, fun f => ⟨ar, f1, _, p1, l1, p2, l2, hne, ob, aq, by omega, fun j hj => absurd hj (Nat.not_lt_zero _)⟩, hC⟩
    ·
      exact absurd c_23 (by omega)
  ·
    exact c_1.elim
theorem vc_J4_setLength : VBC yJ4_setLength cJ4_setLength 2 none 1 := ⟨q633, q107, q634, ⟨by decide, by decide, by decide +kernel⟩⟩

set_option maxRecDepth 100000 in
set_option maxHeartbeats 4000000 in
theorem ct_J5_setLength (l : Launch) (g : GT) (P : Nat → Prop) (f : Nat → Int32) (n a : Nat)  : Ct l g yJ5_setLength cJ5_setLength 2 none 3 0 0 [.ref a, .int (nI 0)] (BufR g P f n a) (fun r H H1 => r = none ∧ (∀ f, BufR g P f 0 a H1) ∧ Chg P H H1) := by
  refine Ct.of (by decide) (Nat.le_of_ble_eq_true rfl) ?_
  intro p e s m args below meth c X hP ls hl
  have hx := X.1
  have hb := X.2.1
  have hKV := X.2.2.2.2.2.2.2.1.1
  have hL : ∀ q ∈ ([] : List Loc), gLo g ≤ q.base := fun _ h => by cases h
  obtain ⟨ar, f1, m, p1, l1, p2, l2, hne, ob, aq, hn, hx1⟩ := hP
  have hl : lv_has ls 2 [(0, .ref a), (1, .int (nI 0))] := hl
  refine lv_aload_n hx hb dJ5_setLength_0 rfl (lv_at hl 0 rfl) ?_
  refine lv_iload_n hx hb dJ5_setLength_1 rfl (lv_at hl 1 rfl) ?_
  refine Ct.callSU (C := RJ5) q2301 q278 (by decide) (sbc_at hKV) (ct_J4_setLength l g P f n a ) X hL hl vc_J4_setLength q632 (ob.recv hKV rfl) rfl rfl (Nat.le_of_ble_eq_true rfl) dJ5_setLength_2 ⟨Nat.le_of_ble_eq_true rfl, Nat.le_of_ble_eq_true rfl⟩ (by omega) (by omega) ⟨ar, f1, m, p1, l1, p2, l2, hne, ob, aq, hn, hx1⟩ (fun r H locs hL hp => ?_)
  obtain ⟨rfl, hbf, hC1⟩ := hp
  exact r_vret X hL dJ5_setLength_5 (by omega) (by omega) ⟨rfl, hbf, hC1⟩
theorem vb_J5_setLength : VB yJ5_setLength cJ5_setLength 2 none 1 := ⟨q629, q630, q108, q631, ⟨by decide, by decide, by decide +kernel⟩⟩

set_option maxRecDepth 100000 in
set_option maxHeartbeats 4000000 in
theorem ct_J4_init (l : Launch) (g : GT) (a : Nat) (l1 : gLo g ≤ a) : Ct l g yJ4_init cJ4_init 2 none 2 1 60 [.ref a, .int (nI 60)] (Ob g a 9 [.null, .int (nI 0), .int (nI 0), .int (nI 0)]) (fun r H H1 => r = none ∧ (∀ f, BufR g (fun q => q = a ∨ H.size ≤ q) f 0 a H1) ∧ Chg (fun q => q = a ∨ H.size ≤ q) H H1) := by
  refine Ct.of (by decide) (Nat.le_of_ble_eq_true rfl) ?_
  intro p e s m args below meth c X hP ls hl
  have hx := X.1
  have hb := X.2.1
  have hKV := X.2.2.2.2.2.2.2.1.1
  have hL : ∀ q ∈ ([] : List Loc), gLo g ≤ q.base := fun _ h => by cases h
  have ob := hP
  have hal := ob.lt
  have hl : lv_has ls 2 [(0, .ref a), (1, .int (nI 60))] := hl
  have hC : Chg (fun q => q = a ∨ s.heap.size ≤ q) s.heap s.heap := Chg.rfl'
  refine lv_aload_n hx hb dJ4_init_0 rfl (lv_at hl 0 rfl) ?_
  refine W.objInit hx hb X.2.2.2.1 (X.2.2.2.2.1 _ q255) (X.2.2.2.2.1 _ q138) (X.2.2.2.2.1 _ q139) rfl (hl.1.trans X.2.2.1.symm) rfl dJ4_init_1 (Nat.le_of_ble_eq_true rfl) (Nat.le_of_ble_eq_true rfl) ?_
  refine W.pc9 (pc' := 4) rfl ?_
  refine r_gs (v := .int (nI 1)) X hL hKV.2.2.2.2.2.1 q256 (fun _ h => h) dJ4_init_4 ?_
  refine n_ifeq (tgt := 25) X dJ4_init_7 (by decide) (by omega) (fun c_7 => ?_) (fun c_7 => ?_)
  ·
    exact absurd c_7 (by decide)
  ·
    refine lv_aload_n hx hb dJ4_init_10 rfl (lv_at hl 0 rfl) ?_
    refine lv_iload_n hx hb dJ4_init_11 rfl (lv_at hl 1 rfl) ?_
    obtain ⟨b1, hb1⟩ : ∃ b, s.heap.size = b := ⟨_, rfl⟩
    have sz_b1 : s.heap.size ≤ b1 := by rw [← hb1]; exact Nat.le_refl _
    have lo_b1 : gLo g ≤ b1 := Nat.le_trans X.2.2.2.2.2.2.2.1.2.1 sz_b1
    have p_b1 : (fun q => q = a ∨ s.heap.size ≤ q) b1 := (fun q hq => Or.inr hq : ∀ q, s.heap.size ≤ q → (fun q => q = a ∨ s.heap.size ≤ q) q) b1 sz_b1
    have ne_a_b1 : a ≠ b1 := Nat.ne_of_lt (by rw [← hb1]; exact ob.lt)
    refine r_newa (atype := .byte) (k := 2) (ty := .byte) X q279 rfl rfl (fun _ _ => rfl) (x := (nI 60)) (N' := 60) (60, .inl (fun _ => 0)) (fun _ => rfl) (nI_pos (by omega)) (nI_clamp (by omega)) (by show 60 * 1 ≤ 536870912; omega) (by show _ + 1 ≤ 1; omega) (by show _ + 60 ≤ 60; omega) dJ4_init_12 (fun H ha_b1 hE_b1 hz_b1 => ?_)
    rw [hb1] at ha_b1 hz_b1 ⊢
    have ob := ob.ext hE_b1
    have hC := hC.trans hE_b1.chg
    have ha_b1 : Ar g b1 2 60 (fun _ => 0) H := ha_b1
    refine r_put (C := RJ5) (T := TJ5) (N := 4) (ci := 9) X in_J5 tyJ5 tyJ5_ok nmJ5 rfl 0 (Nat.le_of_ble_eq_true rfl) q265 (fun _ h => h) rfl hL ob l1 rfl rfl (Nat.le_of_ble_eq_true rfl) dJ4_init_14 (fun H locs hL h1 h2 => ?_)
    have ob : Ob g a 9 [.ref b1, .int (nI 0), .int (nI 0), .int (nI 0)] H := h1
    have ha_b1 := ha_b1.on h2 (Ne.symm ne_a_b1)
    have hC := hC.trans (h2.chg (Or.inl rfl))
    refine lv_aload_n hx hb dJ4_init_17 rfl (lv_at hl 0 rfl) ?_
    refine lv_iconst (v := nI 0) hx hb dJ4_init_18 (by decide) ?_
    refine r_put (C := RJ5) (T := TJ5) (N := 4) (ci := 9) X in_J5 tyJ5 tyJ5_ok nmJ5 rfl 1 (Nat.le_of_ble_eq_true rfl) q266 (fun _ h => h) rfl hL ob l1 rfl rfl (Nat.le_of_ble_eq_true rfl) dJ4_init_19 (fun H locs hL h1 h2 => ?_)
    have ob : Ob g a 9 [.ref b1, .int (nI 0), .int (nI 0), .int (nI 0)] H := h1
    have ha_b1 := ha_b1.on h2 (Ne.symm ne_a_b1)
    have hC := hC.trans (h2.chg (Or.inl rfl))
    refine lv_goto (tgt := 38) hx hb dJ4_init_22 (by decide) ?_
    exact r_vret X hL dJ4_init_38 (by omega) (by omega) ⟨rfl, fun f => ⟨b1, _, _, Or.inl rfl, l1, Or.inr sz_b1, lo_b1, ne_a_b1, ob, ha_b1, by omega, fun j hj => absurd hj (Nat.not_lt_zero _)⟩, hC⟩
theorem ib_J4_init : IB yJ4_init cJ4_init 2 1 := ⟨q253, q107, q254, rfl, ⟨by decide, by decide, by decide +kernel⟩⟩

set_option maxRecDepth 100000 in
set_option maxHeartbeats 4000000 in
theorem ct_J5_init (l : Launch) (g : GT) (a : Nat) (l1 : gLo g ≤ a) : Ct l g yJ5_init cJ5_init 2 none 3 1 60 [.ref a, .int (nI 60)] (Ob g a 9 [.null, .int (nI 0), .int (nI 0), .int (nI 0)]) (fun r H H1 => r = none ∧ (∀ f, BufR g (fun q => q = a ∨ H.size ≤ q) f 0 a H1) ∧ Chg (fun q => q = a ∨ H.size ≤ q) H H1) := by
  refine Ct.of (by decide) (Nat.le_of_ble_eq_true rfl) ?_
  intro p e s m args below meth c X hP ls hl
  have hx := X.1
  have hb := X.2.1
  have hKV := X.2.2.2.2.2.2.2.1.1
  have hL : ∀ q ∈ ([] : List Loc), gLo g ≤ q.base := fun _ h => by cases h
  have ob := hP
  have hal := ob.lt
  have hl : lv_has ls 2 [(0, .ref a), (1, .int (nI 60))] := hl
  have hC : Chg (fun q => q = a ∨ s.heap.size ≤ q) s.heap s.heap := Chg.rfl'
  refine lv_aload_n hx hb dJ5_init_0 rfl (lv_at hl 0 rfl) ?_
  refine lv_iload_n hx hb dJ5_init_1 rfl (lv_at hl 1 rfl) ?_
  refine Ct.callI (ct_J4_init l g a l1) X hL hl ib_J4_init q252 rfl rfl (Nat.le_of_ble_eq_true rfl) dJ5_init_2 ⟨Nat.le_of_ble_eq_true rfl, Nat.le_of_ble_eq_true rfl⟩ (by omega) (by omega) ob (fun r H locs hL hp => ?_)
  obtain ⟨rfl, hbf, hC1⟩ := hp
  exact r_vret X hL dJ5_init_5 (by omega) (by omega) ⟨rfl, hbf, hC1⟩
theorem ib_J5_init : IB yJ5_init cJ5_init 2 1 := ⟨q250, q108, q251, rfl, ⟨by decide, by decide, by decide +kernel⟩⟩
