set_option maxRecDepth 100000
/-! the made classes, out of their shapes -/
def lm0s : Lambda.Shape := ({ iface := "OfferSky$Choice", name := "holds", sam := ({ parameters := [(Jvm.ClassFile.FieldType.object "java/lang/Object")], returnType := (Option.some Jvm.ClassFile.FieldType.boolean) } : Jvm.ClassFile.MethodDescriptor), captured := [(Jvm.ClassFile.FieldType.object "OfferSky$State")], kind := 5, implClass := "OfferSky$State", implName := "lambda$active$2", implDesc := ({ parameters := [(Jvm.ClassFile.FieldType.object "OfferSky$Offer")], returnType := (Option.some Jvm.ClassFile.FieldType.boolean) } : Jvm.ClassFile.MethodDescriptor), implItf := false, inst := ({ parameters := [(Jvm.ClassFile.FieldType.object "OfferSky$Offer")], returnType := (Option.some Jvm.ClassFile.FieldType.boolean) } : Jvm.ClassFile.MethodDescriptor) } : Jvm.Lambda.Shape)
theorem lm0q : ls_all[0]? = some (⟨"OfferSky$State", "active", "()LOfferSky$Bag;"⟩, 5, 104, lm0s) := rfl
def lm0f : ByteArray := ⟨#[42, 180, 0, 15, 43, 192, 0, 19, 182, 0, 25, 172]⟩
theorem lm0d0 : decode lm0f 0 = .ok (.aload_n 0, 1) := by decide +kernel
theorem lm0d1 : decode lm0f 1 = .ok (.getfield 15, 3) := by decide +kernel
theorem lm0d4 : decode lm0f 4 = .ok (.aload_n 1, 1) := by decide +kernel
theorem lm0d5 : decode lm0f 5 = .ok (.checkcast 19, 3) := by decide +kernel
theorem lm0d8 : decode lm0f 8 = .ok (.invokevirtual 25, 3) := by decide +kernel
theorem lm0d11 : decode lm0f 11 = .ok (.ireturn, 1) := by decide +kernel
def lm0D : ClassFile := (lm0s.file "OfferSky$State").getD { minorVersion := 0, majorVersion := 0, constantPool := #[], accessFlags := 0, thisClass := 0, superClass := 0, interfaces := #[], fields := #[], methods := #[], attributes := #[] }
def lm0M : Method := ((layoutMethods lm0D).bind (·[1]?)).getD default
def lm0L : Array Field × Array FieldType × Array FieldType := (layoutFields lm0D 0).getD (#[], #[], #[])
theorem lm0file : lm0s.file "OfferSky$State" = some lm0D := by
  have h : (lm0s.file "OfferSky$State").isSome = true := by decide +kernel
  obtain ⟨x, hx⟩ := Option.isSome_iff_exists.mp h
  simp [lm0D, hx]
theorem lm0second : ∀ ms, layoutMethods lm0D = some ms → ms[1]? = some lm0M := by
  intro ms hms
  have h : ((layoutMethods lm0D).bind (·[1]?)).isSome = true := by decide +kernel
  obtain ⟨x, hx⟩ := Option.isSome_iff_exists.mp h
  have hf : lm0M = x := by simp [lm0M, hx]
  rw [hms] at hx
  rw [hf]
  exact hx
theorem lm0laid : layoutFields lm0D 0 = some lm0L := by
  have h : (layoutFields lm0D 0).isSome = true := by decide +kernel
  obtain ⟨x, hx⟩ := Option.isSome_iff_exists.mp h
  simp [lm0L, hx]
theorem lm0code : (lm0M.code.map fun c => (c.code.data, c.maxLocals)) = some (lm0f.data, 2) := by decide +kernel
theorem lm0flags : (lm0M.accessFlags, lm0M.name, lm0M.sig.returnType) = (0x0001, "holds", (some .boolean : Option FieldType)) := by decide +kernel
theorem lm0eM : lm0D.constantPool[25]? = some (.methodref 21 24) ∧ lm0D.constantPool.className? 21 = some "OfferSky$State" ∧ lm0D.constantPool.nameAndType? 24 = some ("lambda$active$2", "(LOfferSky$Offer;)Z") := by decide +kernel
theorem lm0eC : lm0D.constantPool[21]? = some (.class_ 20) ∧ lm0D.constantPool.string? 20 = some "OfferSky$State" ∧ 21 ≠ lm0D.thisClass := by decide +kernel
theorem lm0eO : lm0D.constantPool[19]? = some (.class_ 18) ∧ lm0D.constantPool.string? 18 = some "OfferSky$Offer" ∧ 19 ≠ lm0D.thisClass := by decide +kernel
theorem lm0eF0 : lm0D.constantPool[15]? = some (.fieldref 2 14) ∧ lm0D.constantPool.nameAndType? 14 = some ("arg$1", "LOfferSky$State;") ∧ lm0L.1.findIdx? (·.name == "arg$1") = some 0 ∧ (lm0L.1[0]?).map (fun f => (f.isStatic, f.slot)) = some (false, 0) := by decide +kernel
theorem lm0types : lm0L.2.1 = #[.object "OfferSky$State"] := by decide +kernel
set_option maxHeartbeats 4000000 in
theorem lm0 {g : GT} {U : State} {A : Array Value} (hKV : KV g U) (hw : ∀ w ∈ lw_all, w.before A U = true) : (FwB U (gL g 0) lm0f 2 ∧ (∃ kC, U.vm.classes[gL g 0]? = some kC ∧ kC.instanceTypes = #[.object "OfferSky$State"] ∧ kC.kind = .ordinary)) ∧ (FwF U (gL g 0) 15 0) ∧ FwC U (gL g 0) 19 "OfferSky$Offer" ∧ (FwV U (gL g 0) 25 yX2_lambda_active_2 1) := by
  have hs : U.lambdaAt? ⟨"OfferSky$State", "active", "()LOfferSky$Bag;"⟩ 5 104 lm0s = some (gL g 0, none) := hKV.2.2.2.1 0 _ lm0q
  obtain ⟨m, kc, cf0, i0, p0, l, hm, hk, hcf0, hsh, hin, hfind, hmade, hcall, hl⟩ := State.lambdaAt?_spec hs
  obtain ⟨kc', hkc', hname⟩ := className_of_methodNamed hm
  cases hk.symm.trans hkc'
  obtain ⟨cO, kO, hfO, hkO, -, -, -, hszO⟩ := Cond.instantiable_spec (hw _ q2342)
  obtain ⟨dk', k, ok, tk, file, cf, object, iface, toy, lay, methods, target, found, hd', hkk, hfile, hcf, hobj, -, hok, hlay, hms, ht, htk, hg, -, hrec, -, -, -, hitf, hpool, hmeth, hfields, hty, hres, -⟩ := Lambda.isMade_spec hmade
  cases hk.symm.trans hd'
  rw [hname] at hcf
  have hcf : lm0s.file "OfferSky$State" = some cf := hcf
  rw [lm0file] at hcf
  cases hcf
  cases hobj.symm.trans hfO
  cases hok.symm.trans hkO
  have hok0 : kO.instanceTypes = #[] := Array.eq_empty_of_size_eq_zero hszO
  rw [hszO, lm0laid] at hlay
  cases hlay
  obtain ⟨b, hbm, hsame⟩ := hmeth 1 lm0M (lm0second methods hms)
  obtain ⟨hn, -, hsig, hfl, x, yy, hfc, hbc, -, hmxl, hcc, -⟩ := Lambda.sameMethod_spec hsame
  have fc := lm0code
  have ff := lm0flags
  simp only [Prod.mk.injEq] at ff
  simp only [hfc, Option.map_some, Option.some.injEq, Prod.mk.injEq] at fc
  have hkn : k.name = "OfferSky$State$$Lambda" := by rw [hrec.1, hname]; rfl
  have hO1 : U.vm.findClass "OfferSky$Offer" = some ((gD g).1 5) := (hKV.1.1 5 _ rfl).2.1
  obtain ⟨kOf, hkOf, -⟩ := (hKV.1.1 5 _ rfl).2.2
  have hmk : U.vm.method? ⟨gL g 0, 1⟩ = some b := by simp [Vm.method?, hkk, hbm]
  refine ⟨⟨⟨b, yy, hmk, hbc, ?_, State.plainMethod.of_name (fun k' hk' => by cases hkk.symm.trans hk'; rw [hkn]; decide), by rw [hmxl]; exact fc.2, by rw [hcc]; exact ByteArray.ext fc.1, by rw [hsig]; exact ff.2.2, by rw [hfl]; exact ff.1⟩, k, hkk, by rw [hty.1, hok0, lm0types]; rfl, hrec.2.1⟩, ?_, ⟨(gD g).1 5, kOf, ⟨k, hkk, hres 19 _ (Lambda.resolvedOf_class lm0eO.1 lm0eO.2.2 lm0eO.2.1 hO1)⟩, hO1, hkOf⟩, ?_⟩
  · simp [Method.locks, Method.isSynchronized, hfl, ff.1, hasFlag, Acc.synchronized]
  · obtain ⟨g0, hg0, hp0⟩ := Option.map_eq_some_iff.mp lm0eF0.2.2.2
    simp only [Prod.mk.injEq] at hp0
    exact ⟨g0, ⟨k, 0, k, hkk, hres 15 _ (Lambda.resolvedOf_field lm0eF0.1 lm0eF0.2.1 lm0eF0.2.2.1), hkk, hfields 0 _ hg0⟩, hp0.1, hp0.2⟩
  · exact FwV.of hkk hfile (by rw [hpool.2.1]; exact lm0eM.1) ⟨k, hkk, hres 25 _ (Lambda.resolvedOf_method lm0eM.1 lm0eM.2.1 ht htk lm0eM.2.2 hg)⟩ ⟨k, hkk, hres 21 _ (Lambda.resolvedOf_class lm0eC.1 lm0eC.2.2 lm0eC.2.1 ht)⟩ ht htk hitf hg (by decide) (hw _ q533) (hw _ q532) (hw _ qs7) (sig := ⟨[.object "OfferSky$Offer"], some .boolean⟩) (by decide +kernel) rfl
def lm1s : Lambda.Shape := ({ iface := "OfferSky$Choice", name := "holds", sam := ({ parameters := [(Jvm.ClassFile.FieldType.object "java/lang/Object")], returnType := (Option.some Jvm.ClassFile.FieldType.boolean) } : Jvm.ClassFile.MethodDescriptor), captured := [(Jvm.ClassFile.FieldType.object "OfferSky$State"), (Jvm.ClassFile.FieldType.object "OfferSky$Bag")], kind := 5, implClass := "OfferSky$State", implName := "lambda$told$3", implDesc := ({ parameters := [(Jvm.ClassFile.FieldType.object "OfferSky$Bag"), (Jvm.ClassFile.FieldType.object "OfferSky$Offer")], returnType := (Option.some Jvm.ClassFile.FieldType.boolean) } : Jvm.ClassFile.MethodDescriptor), implItf := false, inst := ({ parameters := [(Jvm.ClassFile.FieldType.object "OfferSky$Offer")], returnType := (Option.some Jvm.ClassFile.FieldType.boolean) } : Jvm.ClassFile.MethodDescriptor) } : Jvm.Lambda.Shape)
theorem lm1q : ls_all[1]? = some (⟨"OfferSky$State", "told", "(LOfferSky$Bag;)LOfferSky$Bag;"⟩, 3, 115, lm1s) := rfl
def lm1f : ByteArray := ⟨#[42, 180, 0, 17, 42, 180, 0, 19, 43, 192, 0, 23, 182, 0, 29, 172]⟩
theorem lm1d0 : decode lm1f 0 = .ok (.aload_n 0, 1) := by decide +kernel
theorem lm1d1 : decode lm1f 1 = .ok (.getfield 17, 3) := by decide +kernel
theorem lm1d4 : decode lm1f 4 = .ok (.aload_n 0, 1) := by decide +kernel
theorem lm1d5 : decode lm1f 5 = .ok (.getfield 19, 3) := by decide +kernel
theorem lm1d8 : decode lm1f 8 = .ok (.aload_n 1, 1) := by decide +kernel
theorem lm1d9 : decode lm1f 9 = .ok (.checkcast 23, 3) := by decide +kernel
theorem lm1d12 : decode lm1f 12 = .ok (.invokevirtual 29, 3) := by decide +kernel
theorem lm1d15 : decode lm1f 15 = .ok (.ireturn, 1) := by decide +kernel
def lm1D : ClassFile := (lm1s.file "OfferSky$State").getD { minorVersion := 0, majorVersion := 0, constantPool := #[], accessFlags := 0, thisClass := 0, superClass := 0, interfaces := #[], fields := #[], methods := #[], attributes := #[] }
def lm1M : Method := ((layoutMethods lm1D).bind (·[1]?)).getD default
def lm1L : Array Field × Array FieldType × Array FieldType := (layoutFields lm1D 0).getD (#[], #[], #[])
theorem lm1file : lm1s.file "OfferSky$State" = some lm1D := by
  have h : (lm1s.file "OfferSky$State").isSome = true := by decide +kernel
  obtain ⟨x, hx⟩ := Option.isSome_iff_exists.mp h
  simp [lm1D, hx]
theorem lm1second : ∀ ms, layoutMethods lm1D = some ms → ms[1]? = some lm1M := by
  intro ms hms
  have h : ((layoutMethods lm1D).bind (·[1]?)).isSome = true := by decide +kernel
  obtain ⟨x, hx⟩ := Option.isSome_iff_exists.mp h
  have hf : lm1M = x := by simp [lm1M, hx]
  rw [hms] at hx
  rw [hf]
  exact hx
theorem lm1laid : layoutFields lm1D 0 = some lm1L := by
  have h : (layoutFields lm1D 0).isSome = true := by decide +kernel
  obtain ⟨x, hx⟩ := Option.isSome_iff_exists.mp h
  simp [lm1L, hx]
theorem lm1code : (lm1M.code.map fun c => (c.code.data, c.maxLocals)) = some (lm1f.data, 2) := by decide +kernel
theorem lm1flags : (lm1M.accessFlags, lm1M.name, lm1M.sig.returnType) = (0x0001, "holds", (some .boolean : Option FieldType)) := by decide +kernel
theorem lm1eM : lm1D.constantPool[29]? = some (.methodref 25 28) ∧ lm1D.constantPool.className? 25 = some "OfferSky$State" ∧ lm1D.constantPool.nameAndType? 28 = some ("lambda$told$3", "(LOfferSky$Bag;LOfferSky$Offer;)Z") := by decide +kernel
theorem lm1eC : lm1D.constantPool[25]? = some (.class_ 24) ∧ lm1D.constantPool.string? 24 = some "OfferSky$State" ∧ 25 ≠ lm1D.thisClass := by decide +kernel
theorem lm1eO : lm1D.constantPool[23]? = some (.class_ 22) ∧ lm1D.constantPool.string? 22 = some "OfferSky$Offer" ∧ 23 ≠ lm1D.thisClass := by decide +kernel
theorem lm1eF0 : lm1D.constantPool[17]? = some (.fieldref 2 16) ∧ lm1D.constantPool.nameAndType? 16 = some ("arg$1", "LOfferSky$State;") ∧ lm1L.1.findIdx? (·.name == "arg$1") = some 0 ∧ (lm1L.1[0]?).map (fun f => (f.isStatic, f.slot)) = some (false, 0) := by decide +kernel
theorem lm1eF1 : lm1D.constantPool[19]? = some (.fieldref 2 18) ∧ lm1D.constantPool.nameAndType? 18 = some ("arg$2", "LOfferSky$Bag;") ∧ lm1L.1.findIdx? (·.name == "arg$2") = some 1 ∧ (lm1L.1[1]?).map (fun f => (f.isStatic, f.slot)) = some (false, 1) := by decide +kernel
theorem lm1types : lm1L.2.1 = #[.object "OfferSky$State", .object "OfferSky$Bag"] := by decide +kernel
set_option maxHeartbeats 4000000 in
theorem lm1 {g : GT} {U : State} {A : Array Value} (hKV : KV g U) (hw : ∀ w ∈ lw_all, w.before A U = true) : (FwB U (gL g 1) lm1f 2 ∧ (∃ kC, U.vm.classes[gL g 1]? = some kC ∧ kC.instanceTypes = #[.object "OfferSky$State", .object "OfferSky$Bag"] ∧ kC.kind = .ordinary)) ∧ (FwF U (gL g 1) 17 0 ∧ FwF U (gL g 1) 19 1) ∧ FwC U (gL g 1) 23 "OfferSky$Offer" ∧ (FwV U (gL g 1) 29 yX2_lambda_told_3 2) := by
  have hs : U.lambdaAt? ⟨"OfferSky$State", "told", "(LOfferSky$Bag;)LOfferSky$Bag;"⟩ 3 115 lm1s = some (gL g 1, none) := hKV.2.2.2.1 1 _ lm1q
  obtain ⟨m, kc, cf0, i0, p0, l, hm, hk, hcf0, hsh, hin, hfind, hmade, hcall, hl⟩ := State.lambdaAt?_spec hs
  obtain ⟨kc', hkc', hname⟩ := className_of_methodNamed hm
  cases hk.symm.trans hkc'
  obtain ⟨cO, kO, hfO, hkO, -, -, -, hszO⟩ := Cond.instantiable_spec (hw _ q2342)
  obtain ⟨dk', k, ok, tk, file, cf, object, iface, toy, lay, methods, target, found, hd', hkk, hfile, hcf, hobj, -, hok, hlay, hms, ht, htk, hg, -, hrec, -, -, -, hitf, hpool, hmeth, hfields, hty, hres, -⟩ := Lambda.isMade_spec hmade
  cases hk.symm.trans hd'
  rw [hname] at hcf
  have hcf : lm1s.file "OfferSky$State" = some cf := hcf
  rw [lm1file] at hcf
  cases hcf
  cases hobj.symm.trans hfO
  cases hok.symm.trans hkO
  have hok0 : kO.instanceTypes = #[] := Array.eq_empty_of_size_eq_zero hszO
  rw [hszO, lm1laid] at hlay
  cases hlay
  obtain ⟨b, hbm, hsame⟩ := hmeth 1 lm1M (lm1second methods hms)
  obtain ⟨hn, -, hsig, hfl, x, yy, hfc, hbc, -, hmxl, hcc, -⟩ := Lambda.sameMethod_spec hsame
  have fc := lm1code
  have ff := lm1flags
  simp only [Prod.mk.injEq] at ff
  simp only [hfc, Option.map_some, Option.some.injEq, Prod.mk.injEq] at fc
  have hkn : k.name = "OfferSky$State$$Lambda" := by rw [hrec.1, hname]; rfl
  have hO1 : U.vm.findClass "OfferSky$Offer" = some ((gD g).1 5) := (hKV.1.1 5 _ rfl).2.1
  obtain ⟨kOf, hkOf, -⟩ := (hKV.1.1 5 _ rfl).2.2
  have hmk : U.vm.method? ⟨gL g 1, 1⟩ = some b := by simp [Vm.method?, hkk, hbm]
  refine ⟨⟨⟨b, yy, hmk, hbc, ?_, State.plainMethod.of_name (fun k' hk' => by cases hkk.symm.trans hk'; rw [hkn]; decide), by rw [hmxl]; exact fc.2, by rw [hcc]; exact ByteArray.ext fc.1, by rw [hsig]; exact ff.2.2, by rw [hfl]; exact ff.1⟩, k, hkk, by rw [hty.1, hok0, lm1types]; rfl, hrec.2.1⟩, ⟨?_, ?_⟩, ⟨(gD g).1 5, kOf, ⟨k, hkk, hres 23 _ (Lambda.resolvedOf_class lm1eO.1 lm1eO.2.2 lm1eO.2.1 hO1)⟩, hO1, hkOf⟩, ?_⟩
  · simp [Method.locks, Method.isSynchronized, hfl, ff.1, hasFlag, Acc.synchronized]
  · obtain ⟨g0, hg0, hp0⟩ := Option.map_eq_some_iff.mp lm1eF0.2.2.2
    simp only [Prod.mk.injEq] at hp0
    exact ⟨g0, ⟨k, 0, k, hkk, hres 17 _ (Lambda.resolvedOf_field lm1eF0.1 lm1eF0.2.1 lm1eF0.2.2.1), hkk, hfields 0 _ hg0⟩, hp0.1, hp0.2⟩
  · obtain ⟨g0, hg0, hp0⟩ := Option.map_eq_some_iff.mp lm1eF1.2.2.2
    simp only [Prod.mk.injEq] at hp0
    exact ⟨g0, ⟨k, 1, k, hkk, hres 19 _ (Lambda.resolvedOf_field lm1eF1.1 lm1eF1.2.1 lm1eF1.2.2.1), hkk, hfields 1 _ hg0⟩, hp0.1, hp0.2⟩
  · exact FwV.of hkk hfile (by rw [hpool.2.1]; exact lm1eM.1) ⟨k, hkk, hres 29 _ (Lambda.resolvedOf_method lm1eM.1 lm1eM.2.1 ht htk lm1eM.2.2 hg)⟩ ⟨k, hkk, hres 25 _ (Lambda.resolvedOf_class lm1eC.1 lm1eC.2.2 lm1eC.2.1 ht)⟩ ht htk hitf hg (by decide) (hw _ q559) (hw _ q558) (hw _ qs8) (sig := ⟨[.object "OfferSky$Bag", .object "OfferSky$Offer"], some .boolean⟩) (by decide +kernel) rfl
def lm2s : Lambda.Shape := ({ iface := "OfferSky$Choice", name := "holds", sam := ({ parameters := [(Jvm.ClassFile.FieldType.object "java/lang/Object")], returnType := (Option.some Jvm.ClassFile.FieldType.boolean) } : Jvm.ClassFile.MethodDescriptor), captured := [(Jvm.ClassFile.FieldType.object "OfferSky$State"), (Jvm.ClassFile.FieldType.object "OfferSky$Bag")], kind := 5, implClass := "OfferSky$State", implName := "lambda$prunes$1", implDesc := ({ parameters := [(Jvm.ClassFile.FieldType.object "OfferSky$Bag"), (Jvm.ClassFile.FieldType.object "OfferSky$Offer")], returnType := (Option.some Jvm.ClassFile.FieldType.boolean) } : Jvm.ClassFile.MethodDescriptor), implItf := false, inst := ({ parameters := [(Jvm.ClassFile.FieldType.object "OfferSky$Offer")], returnType := (Option.some Jvm.ClassFile.FieldType.boolean) } : Jvm.ClassFile.MethodDescriptor) } : Jvm.Lambda.Shape)
theorem lm2q : ls_all[2]? = some (⟨"OfferSky$State", "prunes", "()I"⟩, 15, 87, lm2s) := rfl
def lm2f : ByteArray := ⟨#[42, 180, 0, 17, 42, 180, 0, 19, 43, 192, 0, 23, 182, 0, 29, 172]⟩
theorem lm2d0 : decode lm2f 0 = .ok (.aload_n 0, 1) := by decide +kernel
theorem lm2d1 : decode lm2f 1 = .ok (.getfield 17, 3) := by decide +kernel
theorem lm2d4 : decode lm2f 4 = .ok (.aload_n 0, 1) := by decide +kernel
theorem lm2d5 : decode lm2f 5 = .ok (.getfield 19, 3) := by decide +kernel
theorem lm2d8 : decode lm2f 8 = .ok (.aload_n 1, 1) := by decide +kernel
theorem lm2d9 : decode lm2f 9 = .ok (.checkcast 23, 3) := by decide +kernel
theorem lm2d12 : decode lm2f 12 = .ok (.invokevirtual 29, 3) := by decide +kernel
theorem lm2d15 : decode lm2f 15 = .ok (.ireturn, 1) := by decide +kernel
def lm2D : ClassFile := (lm2s.file "OfferSky$State").getD { minorVersion := 0, majorVersion := 0, constantPool := #[], accessFlags := 0, thisClass := 0, superClass := 0, interfaces := #[], fields := #[], methods := #[], attributes := #[] }
def lm2M : Method := ((layoutMethods lm2D).bind (·[1]?)).getD default
def lm2L : Array Field × Array FieldType × Array FieldType := (layoutFields lm2D 0).getD (#[], #[], #[])
theorem lm2file : lm2s.file "OfferSky$State" = some lm2D := by
  have h : (lm2s.file "OfferSky$State").isSome = true := by decide +kernel
  obtain ⟨x, hx⟩ := Option.isSome_iff_exists.mp h
  simp [lm2D, hx]
theorem lm2second : ∀ ms, layoutMethods lm2D = some ms → ms[1]? = some lm2M := by
  intro ms hms
  have h : ((layoutMethods lm2D).bind (·[1]?)).isSome = true := by decide +kernel
  obtain ⟨x, hx⟩ := Option.isSome_iff_exists.mp h
  have hf : lm2M = x := by simp [lm2M, hx]
  rw [hms] at hx
  rw [hf]
  exact hx
theorem lm2laid : layoutFields lm2D 0 = some lm2L := by
  have h : (layoutFields lm2D 0).isSome = true := by decide +kernel
  obtain ⟨x, hx⟩ := Option.isSome_iff_exists.mp h
  simp [lm2L, hx]
theorem lm2code : (lm2M.code.map fun c => (c.code.data, c.maxLocals)) = some (lm2f.data, 2) := by decide +kernel
theorem lm2flags : (lm2M.accessFlags, lm2M.name, lm2M.sig.returnType) = (0x0001, "holds", (some .boolean : Option FieldType)) := by decide +kernel
theorem lm2eM : lm2D.constantPool[29]? = some (.methodref 25 28) ∧ lm2D.constantPool.className? 25 = some "OfferSky$State" ∧ lm2D.constantPool.nameAndType? 28 = some ("lambda$prunes$1", "(LOfferSky$Bag;LOfferSky$Offer;)Z") := by decide +kernel
theorem lm2eC : lm2D.constantPool[25]? = some (.class_ 24) ∧ lm2D.constantPool.string? 24 = some "OfferSky$State" ∧ 25 ≠ lm2D.thisClass := by decide +kernel
theorem lm2eO : lm2D.constantPool[23]? = some (.class_ 22) ∧ lm2D.constantPool.string? 22 = some "OfferSky$Offer" ∧ 23 ≠ lm2D.thisClass := by decide +kernel
theorem lm2eF0 : lm2D.constantPool[17]? = some (.fieldref 2 16) ∧ lm2D.constantPool.nameAndType? 16 = some ("arg$1", "LOfferSky$State;") ∧ lm2L.1.findIdx? (·.name == "arg$1") = some 0 ∧ (lm2L.1[0]?).map (fun f => (f.isStatic, f.slot)) = some (false, 0) := by decide +kernel
theorem lm2eF1 : lm2D.constantPool[19]? = some (.fieldref 2 18) ∧ lm2D.constantPool.nameAndType? 18 = some ("arg$2", "LOfferSky$Bag;") ∧ lm2L.1.findIdx? (·.name == "arg$2") = some 1 ∧ (lm2L.1[1]?).map (fun f => (f.isStatic, f.slot)) = some (false, 1) := by decide +kernel
theorem lm2types : lm2L.2.1 = #[.object "OfferSky$State", .object "OfferSky$Bag"] := by decide +kernel
set_option maxHeartbeats 4000000 in
theorem lm2 {g : GT} {U : State} {A : Array Value} (hKV : KV g U) (hw : ∀ w ∈ lw_all, w.before A U = true) : (FwB U (gL g 2) lm2f 2 ∧ (∃ kC, U.vm.classes[gL g 2]? = some kC ∧ kC.instanceTypes = #[.object "OfferSky$State", .object "OfferSky$Bag"] ∧ kC.kind = .ordinary)) ∧ (FwF U (gL g 2) 17 0 ∧ FwF U (gL g 2) 19 1) ∧ FwC U (gL g 2) 23 "OfferSky$Offer" ∧ (FwV U (gL g 2) 29 yX2_lambda_prunes_1 2) := by
  have hs : U.lambdaAt? ⟨"OfferSky$State", "prunes", "()I"⟩ 15 87 lm2s = some (gL g 2, none) := hKV.2.2.2.1 2 _ lm2q
  obtain ⟨m, kc, cf0, i0, p0, l, hm, hk, hcf0, hsh, hin, hfind, hmade, hcall, hl⟩ := State.lambdaAt?_spec hs
  obtain ⟨kc', hkc', hname⟩ := className_of_methodNamed hm
  cases hk.symm.trans hkc'
  obtain ⟨cO, kO, hfO, hkO, -, -, -, hszO⟩ := Cond.instantiable_spec (hw _ q2342)
  obtain ⟨dk', k, ok, tk, file, cf, object, iface, toy, lay, methods, target, found, hd', hkk, hfile, hcf, hobj, -, hok, hlay, hms, ht, htk, hg, -, hrec, -, -, -, hitf, hpool, hmeth, hfields, hty, hres, -⟩ := Lambda.isMade_spec hmade
  cases hk.symm.trans hd'
  rw [hname] at hcf
  have hcf : lm2s.file "OfferSky$State" = some cf := hcf
  rw [lm2file] at hcf
  cases hcf
  cases hobj.symm.trans hfO
  cases hok.symm.trans hkO
  have hok0 : kO.instanceTypes = #[] := Array.eq_empty_of_size_eq_zero hszO
  rw [hszO, lm2laid] at hlay
  cases hlay
  obtain ⟨b, hbm, hsame⟩ := hmeth 1 lm2M (lm2second methods hms)
  obtain ⟨hn, -, hsig, hfl, x, yy, hfc, hbc, -, hmxl, hcc, -⟩ := Lambda.sameMethod_spec hsame
  have fc := lm2code
  have ff := lm2flags
  simp only [Prod.mk.injEq] at ff
  simp only [hfc, Option.map_some, Option.some.injEq, Prod.mk.injEq] at fc
  have hkn : k.name = "OfferSky$State$$Lambda" := by rw [hrec.1, hname]; rfl
  have hO1 : U.vm.findClass "OfferSky$Offer" = some ((gD g).1 5) := (hKV.1.1 5 _ rfl).2.1
  obtain ⟨kOf, hkOf, -⟩ := (hKV.1.1 5 _ rfl).2.2
  have hmk : U.vm.method? ⟨gL g 2, 1⟩ = some b := by simp [Vm.method?, hkk, hbm]
  refine ⟨⟨⟨b, yy, hmk, hbc, ?_, State.plainMethod.of_name (fun k' hk' => by cases hkk.symm.trans hk'; rw [hkn]; decide), by rw [hmxl]; exact fc.2, by rw [hcc]; exact ByteArray.ext fc.1, by rw [hsig]; exact ff.2.2, by rw [hfl]; exact ff.1⟩, k, hkk, by rw [hty.1, hok0, lm2types]; rfl, hrec.2.1⟩, ⟨?_, ?_⟩, ⟨(gD g).1 5, kOf, ⟨k, hkk, hres 23 _ (Lambda.resolvedOf_class lm2eO.1 lm2eO.2.2 lm2eO.2.1 hO1)⟩, hO1, hkOf⟩, ?_⟩
  · simp [Method.locks, Method.isSynchronized, hfl, ff.1, hasFlag, Acc.synchronized]
  · obtain ⟨g0, hg0, hp0⟩ := Option.map_eq_some_iff.mp lm2eF0.2.2.2
    simp only [Prod.mk.injEq] at hp0
    exact ⟨g0, ⟨k, 0, k, hkk, hres 17 _ (Lambda.resolvedOf_field lm2eF0.1 lm2eF0.2.1 lm2eF0.2.2.1), hkk, hfields 0 _ hg0⟩, hp0.1, hp0.2⟩
  · obtain ⟨g0, hg0, hp0⟩ := Option.map_eq_some_iff.mp lm2eF1.2.2.2
    simp only [Prod.mk.injEq] at hp0
    exact ⟨g0, ⟨k, 1, k, hkk, hres 19 _ (Lambda.resolvedOf_field lm2eF1.1 lm2eF1.2.1 lm2eF1.2.2.1), hkk, hfields 1 _ hg0⟩, hp0.1, hp0.2⟩
  · exact FwV.of hkk hfile (by rw [hpool.2.1]; exact lm2eM.1) ⟨k, hkk, hres 29 _ (Lambda.resolvedOf_method lm2eM.1 lm2eM.2.1 ht htk lm2eM.2.2 hg)⟩ ⟨k, hkk, hres 25 _ (Lambda.resolvedOf_class lm2eC.1 lm2eC.2.2 lm2eC.2.1 ht)⟩ ht htk hitf hg (by decide) (hw _ q597) (hw _ q596) (hw _ qs9) (sig := ⟨[.object "OfferSky$Bag", .object "OfferSky$Offer"], some .boolean⟩) (by decide +kernel) rfl
def lm3s : Lambda.Shape := ({ iface := "OfferSky$Choice", name := "holds", sam := ({ parameters := [(Jvm.ClassFile.FieldType.object "java/lang/Object")], returnType := (Option.some Jvm.ClassFile.FieldType.boolean) } : Jvm.ClassFile.MethodDescriptor), captured := [(Jvm.ClassFile.FieldType.object "OfferSky$Offer")], kind := 6, implClass := "OfferSky$State", implName := "lambda$prunes$0", implDesc := ({ parameters := [(Jvm.ClassFile.FieldType.object "OfferSky$Offer"), (Jvm.ClassFile.FieldType.object "OfferSky$Offer")], returnType := (Option.some Jvm.ClassFile.FieldType.boolean) } : Jvm.ClassFile.MethodDescriptor), implItf := false, inst := ({ parameters := [(Jvm.ClassFile.FieldType.object "OfferSky$Offer")], returnType := (Option.some Jvm.ClassFile.FieldType.boolean) } : Jvm.ClassFile.MethodDescriptor) } : Jvm.Lambda.Shape)
theorem lm3q : ls_all[3]? = some (⟨"OfferSky$State", "lambda$prunes$1", "(LOfferSky$Bag;LOfferSky$Offer;)Z"⟩, 13, 258, lm3s) := rfl
def lm3f : ByteArray := ⟨#[42, 180, 0, 15, 43, 192, 0, 19, 184, 0, 25, 172]⟩
theorem lm3d0 : decode lm3f 0 = .ok (.aload_n 0, 1) := by decide +kernel
theorem lm3d1 : decode lm3f 1 = .ok (.getfield 15, 3) := by decide +kernel
theorem lm3d4 : decode lm3f 4 = .ok (.aload_n 1, 1) := by decide +kernel
theorem lm3d5 : decode lm3f 5 = .ok (.checkcast 19, 3) := by decide +kernel
theorem lm3d8 : decode lm3f 8 = .ok (.invokestatic 25, 3) := by decide +kernel
theorem lm3d11 : decode lm3f 11 = .ok (.ireturn, 1) := by decide +kernel
def lm3D : ClassFile := (lm3s.file "OfferSky$State").getD { minorVersion := 0, majorVersion := 0, constantPool := #[], accessFlags := 0, thisClass := 0, superClass := 0, interfaces := #[], fields := #[], methods := #[], attributes := #[] }
def lm3M : Method := ((layoutMethods lm3D).bind (·[1]?)).getD default
def lm3L : Array Field × Array FieldType × Array FieldType := (layoutFields lm3D 0).getD (#[], #[], #[])
theorem lm3file : lm3s.file "OfferSky$State" = some lm3D := by
  have h : (lm3s.file "OfferSky$State").isSome = true := by decide +kernel
  obtain ⟨x, hx⟩ := Option.isSome_iff_exists.mp h
  simp [lm3D, hx]
theorem lm3second : ∀ ms, layoutMethods lm3D = some ms → ms[1]? = some lm3M := by
  intro ms hms
  have h : ((layoutMethods lm3D).bind (·[1]?)).isSome = true := by decide +kernel
  obtain ⟨x, hx⟩ := Option.isSome_iff_exists.mp h
  have hf : lm3M = x := by simp [lm3M, hx]
  rw [hms] at hx
  rw [hf]
  exact hx
theorem lm3laid : layoutFields lm3D 0 = some lm3L := by
  have h : (layoutFields lm3D 0).isSome = true := by decide +kernel
  obtain ⟨x, hx⟩ := Option.isSome_iff_exists.mp h
  simp [lm3L, hx]
theorem lm3code : (lm3M.code.map fun c => (c.code.data, c.maxLocals)) = some (lm3f.data, 2) := by decide +kernel
theorem lm3flags : (lm3M.accessFlags, lm3M.name, lm3M.sig.returnType) = (0x0001, "holds", (some .boolean : Option FieldType)) := by decide +kernel
theorem lm3eM : lm3D.constantPool[25]? = some (.methodref 21 24) ∧ lm3D.constantPool.className? 21 = some "OfferSky$State" ∧ lm3D.constantPool.nameAndType? 24 = some ("lambda$prunes$0", "(LOfferSky$Offer;LOfferSky$Offer;)Z") := by decide +kernel
theorem lm3eC : lm3D.constantPool[21]? = some (.class_ 20) ∧ lm3D.constantPool.string? 20 = some "OfferSky$State" ∧ 21 ≠ lm3D.thisClass := by decide +kernel
theorem lm3eO : lm3D.constantPool[19]? = some (.class_ 18) ∧ lm3D.constantPool.string? 18 = some "OfferSky$Offer" ∧ 19 ≠ lm3D.thisClass := by decide +kernel
theorem lm3eF0 : lm3D.constantPool[15]? = some (.fieldref 2 14) ∧ lm3D.constantPool.nameAndType? 14 = some ("arg$1", "LOfferSky$Offer;") ∧ lm3L.1.findIdx? (·.name == "arg$1") = some 0 ∧ (lm3L.1[0]?).map (fun f => (f.isStatic, f.slot)) = some (false, 0) := by decide +kernel
theorem lm3types : lm3L.2.1 = #[.object "OfferSky$Offer"] := by decide +kernel
set_option maxHeartbeats 4000000 in
theorem lm3 {g : GT} {U : State} {A : Array Value} (hKV : KV g U) (hw : ∀ w ∈ lw_all, w.before A U = true) : (FwB U (gL g 3) lm3f 2 ∧ (∃ kC, U.vm.classes[gL g 3]? = some kC ∧ kC.instanceTypes = #[.object "OfferSky$Offer"] ∧ kC.kind = .ordinary)) ∧ (FwF U (gL g 3) 15 0) ∧ FwC U (gL g 3) 19 "OfferSky$Offer" ∧ (∀ e : Env, FwS e U (gL g 3) 25 yX2_lambda_prunes_0 2) := by
  have hs : U.lambdaAt? ⟨"OfferSky$State", "lambda$prunes$1", "(LOfferSky$Bag;LOfferSky$Offer;)Z"⟩ 13 258 lm3s = some (gL g 3, none) := hKV.2.2.2.1 3 _ lm3q
  obtain ⟨m, kc, cf0, i0, p0, l, hm, hk, hcf0, hsh, hin, hfind, hmade, hcall, hl⟩ := State.lambdaAt?_spec hs
  obtain ⟨kc', hkc', hname⟩ := className_of_methodNamed hm
  cases hk.symm.trans hkc'
  obtain ⟨cO, kO, hfO, hkO, -, -, -, hszO⟩ := Cond.instantiable_spec (hw _ q2342)
  obtain ⟨dk', k, ok, tk, file, cf, object, iface, toy, lay, methods, target, found, hd', hkk, hfile, hcf, hobj, -, hok, hlay, hms, ht, htk, hg, -, hrec, -, -, -, hitf, hpool, hmeth, hfields, hty, hres, -⟩ := Lambda.isMade_spec hmade
  cases hk.symm.trans hd'
  rw [hname] at hcf
  have hcf : lm3s.file "OfferSky$State" = some cf := hcf
  rw [lm3file] at hcf
  cases hcf
  cases hobj.symm.trans hfO
  cases hok.symm.trans hkO
  have hok0 : kO.instanceTypes = #[] := Array.eq_empty_of_size_eq_zero hszO
  rw [hszO, lm3laid] at hlay
  cases hlay
  obtain ⟨b, hbm, hsame⟩ := hmeth 1 lm3M (lm3second methods hms)
  obtain ⟨hn, -, hsig, hfl, x, yy, hfc, hbc, -, hmxl, hcc, -⟩ := Lambda.sameMethod_spec hsame
  have fc := lm3code
  have ff := lm3flags
  simp only [Prod.mk.injEq] at ff
  simp only [hfc, Option.map_some, Option.some.injEq, Prod.mk.injEq] at fc
  have hkn : k.name = "OfferSky$State$$Lambda" := by rw [hrec.1, hname]; rfl
  have hO1 : U.vm.findClass "OfferSky$Offer" = some ((gD g).1 5) := (hKV.1.1 5 _ rfl).2.1
  obtain ⟨kOf, hkOf, -⟩ := (hKV.1.1 5 _ rfl).2.2
  have hmk : U.vm.method? ⟨gL g 3, 1⟩ = some b := by simp [Vm.method?, hkk, hbm]
  refine ⟨⟨⟨b, yy, hmk, hbc, ?_, State.plainMethod.of_name (fun k' hk' => by cases hkk.symm.trans hk'; rw [hkn]; decide), by rw [hmxl]; exact fc.2, by rw [hcc]; exact ByteArray.ext fc.1, by rw [hsig]; exact ff.2.2, by rw [hfl]; exact ff.1⟩, k, hkk, by rw [hty.1, hok0, lm3types]; rfl, hrec.2.1⟩, ?_, ⟨(gD g).1 5, kOf, ⟨k, hkk, hres 19 _ (Lambda.resolvedOf_class lm3eO.1 lm3eO.2.2 lm3eO.2.1 hO1)⟩, hO1, hkOf⟩, ?_⟩
  · simp [Method.locks, Method.isSynchronized, hfl, ff.1, hasFlag, Acc.synchronized]
  · obtain ⟨g0, hg0, hp0⟩ := Option.map_eq_some_iff.mp lm3eF0.2.2.2
    simp only [Prod.mk.injEq] at hp0
    exact ⟨g0, ⟨k, 0, k, hkk, hres 15 _ (Lambda.resolvedOf_field lm3eF0.1 lm3eF0.2.1 lm3eF0.2.2.1), hkk, hfields 0 _ hg0⟩, hp0.1, hp0.2⟩
  · intro e
    exact FwS.of hkk hfile (by rw [hpool.2.1]; exact lm3eM.1) (by rw [hpool.2.1]; exact lm3eM.2.2) ⟨k, hkk, hres 25 _ (Lambda.resolvedOf_method lm3eM.1 lm3eM.2.1 ht htk lm3eM.2.2 hg)⟩ ⟨k, hkk, hres 21 _ (Lambda.resolvedOf_class lm3eC.1 lm3eC.2.2 lm3eC.2.1 ht)⟩ ht htk hg (by decide) (hw _ q599) (hw _ q598) (hw _ q100) (sig := ⟨[.object "OfferSky$Offer", .object "OfferSky$Offer"], some .boolean⟩) (by decide +kernel) rfl
def lm4s : Lambda.Shape := ({ iface := "OfferSky$Order", name := "isAhead", sam := ({ parameters := [(Jvm.ClassFile.FieldType.object "java/lang/Object"), (Jvm.ClassFile.FieldType.object "java/lang/Object")], returnType := (Option.some Jvm.ClassFile.FieldType.boolean) } : Jvm.ClassFile.MethodDescriptor), captured := [(Jvm.ClassFile.FieldType.object "OfferSky$State")], kind := 5, implClass := "OfferSky$State", implName := "lambda$bySums$7", implDesc := ({ parameters := [(Jvm.ClassFile.FieldType.object "OfferSky$Offer"), (Jvm.ClassFile.FieldType.object "OfferSky$Offer")], returnType := (Option.some Jvm.ClassFile.FieldType.boolean) } : Jvm.ClassFile.MethodDescriptor), implItf := false, inst := ({ parameters := [(Jvm.ClassFile.FieldType.object "OfferSky$Offer"), (Jvm.ClassFile.FieldType.object "OfferSky$Offer")], returnType := (Option.some Jvm.ClassFile.FieldType.boolean) } : Jvm.ClassFile.MethodDescriptor) } : Jvm.Lambda.Shape)
theorem lm4q : ls_all[4]? = some (⟨"OfferSky$State", "bySums", "()I"⟩, 5, 135, lm4s) := rfl
def lm4f : ByteArray := ⟨#[42, 180, 0, 15, 43, 192, 0, 19, 44, 192, 0, 19, 182, 0, 25, 172]⟩
theorem lm4d0 : decode lm4f 0 = .ok (.aload_n 0, 1) := by decide +kernel
theorem lm4d1 : decode lm4f 1 = .ok (.getfield 15, 3) := by decide +kernel
theorem lm4d4 : decode lm4f 4 = .ok (.aload_n 1, 1) := by decide +kernel
theorem lm4d5 : decode lm4f 5 = .ok (.checkcast 19, 3) := by decide +kernel
theorem lm4d8 : decode lm4f 8 = .ok (.aload_n 2, 1) := by decide +kernel
theorem lm4d9 : decode lm4f 9 = .ok (.checkcast 19, 3) := by decide +kernel
theorem lm4d12 : decode lm4f 12 = .ok (.invokevirtual 25, 3) := by decide +kernel
theorem lm4d15 : decode lm4f 15 = .ok (.ireturn, 1) := by decide +kernel
def lm4D : ClassFile := (lm4s.file "OfferSky$State").getD { minorVersion := 0, majorVersion := 0, constantPool := #[], accessFlags := 0, thisClass := 0, superClass := 0, interfaces := #[], fields := #[], methods := #[], attributes := #[] }
def lm4M : Method := ((layoutMethods lm4D).bind (·[1]?)).getD default
def lm4L : Array Field × Array FieldType × Array FieldType := (layoutFields lm4D 0).getD (#[], #[], #[])
theorem lm4file : lm4s.file "OfferSky$State" = some lm4D := by
  have h : (lm4s.file "OfferSky$State").isSome = true := by decide +kernel
  obtain ⟨x, hx⟩ := Option.isSome_iff_exists.mp h
  simp [lm4D, hx]
theorem lm4second : ∀ ms, layoutMethods lm4D = some ms → ms[1]? = some lm4M := by
  intro ms hms
  have h : ((layoutMethods lm4D).bind (·[1]?)).isSome = true := by decide +kernel
  obtain ⟨x, hx⟩ := Option.isSome_iff_exists.mp h
  have hf : lm4M = x := by simp [lm4M, hx]
  rw [hms] at hx
  rw [hf]
  exact hx
theorem lm4laid : layoutFields lm4D 0 = some lm4L := by
  have h : (layoutFields lm4D 0).isSome = true := by decide +kernel
  obtain ⟨x, hx⟩ := Option.isSome_iff_exists.mp h
  simp [lm4L, hx]
theorem lm4code : (lm4M.code.map fun c => (c.code.data, c.maxLocals)) = some (lm4f.data, 3) := by decide +kernel
theorem lm4flags : (lm4M.accessFlags, lm4M.name, lm4M.sig.returnType) = (0x0001, "isAhead", (some .boolean : Option FieldType)) := by decide +kernel
theorem lm4eM : lm4D.constantPool[25]? = some (.methodref 21 24) ∧ lm4D.constantPool.className? 21 = some "OfferSky$State" ∧ lm4D.constantPool.nameAndType? 24 = some ("lambda$bySums$7", "(LOfferSky$Offer;LOfferSky$Offer;)Z") := by decide +kernel
theorem lm4eC : lm4D.constantPool[21]? = some (.class_ 20) ∧ lm4D.constantPool.string? 20 = some "OfferSky$State" ∧ 21 ≠ lm4D.thisClass := by decide +kernel
theorem lm4eO : lm4D.constantPool[19]? = some (.class_ 18) ∧ lm4D.constantPool.string? 18 = some "OfferSky$Offer" ∧ 19 ≠ lm4D.thisClass := by decide +kernel
theorem lm4eF0 : lm4D.constantPool[15]? = some (.fieldref 2 14) ∧ lm4D.constantPool.nameAndType? 14 = some ("arg$1", "LOfferSky$State;") ∧ lm4L.1.findIdx? (·.name == "arg$1") = some 0 ∧ (lm4L.1[0]?).map (fun f => (f.isStatic, f.slot)) = some (false, 0) := by decide +kernel
theorem lm4types : lm4L.2.1 = #[.object "OfferSky$State"] := by decide +kernel
set_option maxHeartbeats 4000000 in
theorem lm4 {g : GT} {U : State} {A : Array Value} (hKV : KV g U) (hw : ∀ w ∈ lw_all, w.before A U = true) : (FwB U (gL g 4) lm4f 3 ∧ (∃ kC, U.vm.classes[gL g 4]? = some kC ∧ kC.instanceTypes = #[.object "OfferSky$State"] ∧ kC.kind = .ordinary)) ∧ (FwF U (gL g 4) 15 0) ∧ FwC U (gL g 4) 19 "OfferSky$Offer" ∧ (FwV U (gL g 4) 25 yX2_lambda_bySums_7 2) := by
  have hs : U.lambdaAt? ⟨"OfferSky$State", "bySums", "()I"⟩ 5 135 lm4s = some (gL g 4, none) := hKV.2.2.2.1 4 _ lm4q
  obtain ⟨m, kc, cf0, i0, p0, l, hm, hk, hcf0, hsh, hin, hfind, hmade, hcall, hl⟩ := State.lambdaAt?_spec hs
  obtain ⟨kc', hkc', hname⟩ := className_of_methodNamed hm
  cases hk.symm.trans hkc'
  obtain ⟨cO, kO, hfO, hkO, -, -, -, hszO⟩ := Cond.instantiable_spec (hw _ q2342)
  obtain ⟨dk', k, ok, tk, file, cf, object, iface, toy, lay, methods, target, found, hd', hkk, hfile, hcf, hobj, -, hok, hlay, hms, ht, htk, hg, -, hrec, -, -, -, hitf, hpool, hmeth, hfields, hty, hres, -⟩ := Lambda.isMade_spec hmade
  cases hk.symm.trans hd'
  rw [hname] at hcf
  have hcf : lm4s.file "OfferSky$State" = some cf := hcf
  rw [lm4file] at hcf
  cases hcf
  cases hobj.symm.trans hfO
  cases hok.symm.trans hkO
  have hok0 : kO.instanceTypes = #[] := Array.eq_empty_of_size_eq_zero hszO
  rw [hszO, lm4laid] at hlay
  cases hlay
  obtain ⟨b, hbm, hsame⟩ := hmeth 1 lm4M (lm4second methods hms)
  obtain ⟨hn, -, hsig, hfl, x, yy, hfc, hbc, -, hmxl, hcc, -⟩ := Lambda.sameMethod_spec hsame
  have fc := lm4code
  have ff := lm4flags
  simp only [Prod.mk.injEq] at ff
  simp only [hfc, Option.map_some, Option.some.injEq, Prod.mk.injEq] at fc
  have hkn : k.name = "OfferSky$State$$Lambda" := by rw [hrec.1, hname]; rfl
  have hO1 : U.vm.findClass "OfferSky$Offer" = some ((gD g).1 5) := (hKV.1.1 5 _ rfl).2.1
  obtain ⟨kOf, hkOf, -⟩ := (hKV.1.1 5 _ rfl).2.2
  have hmk : U.vm.method? ⟨gL g 4, 1⟩ = some b := by simp [Vm.method?, hkk, hbm]
  refine ⟨⟨⟨b, yy, hmk, hbc, ?_, State.plainMethod.of_name (fun k' hk' => by cases hkk.symm.trans hk'; rw [hkn]; decide), by rw [hmxl]; exact fc.2, by rw [hcc]; exact ByteArray.ext fc.1, by rw [hsig]; exact ff.2.2, by rw [hfl]; exact ff.1⟩, k, hkk, by rw [hty.1, hok0, lm4types]; rfl, hrec.2.1⟩, ?_, ⟨(gD g).1 5, kOf, ⟨k, hkk, hres 19 _ (Lambda.resolvedOf_class lm4eO.1 lm4eO.2.2 lm4eO.2.1 hO1)⟩, hO1, hkOf⟩, ?_⟩
  · simp [Method.locks, Method.isSynchronized, hfl, ff.1, hasFlag, Acc.synchronized]
  · obtain ⟨g0, hg0, hp0⟩ := Option.map_eq_some_iff.mp lm4eF0.2.2.2
    simp only [Prod.mk.injEq] at hp0
    exact ⟨g0, ⟨k, 0, k, hkk, hres 15 _ (Lambda.resolvedOf_field lm4eF0.1 lm4eF0.2.1 lm4eF0.2.2.1), hkk, hfields 0 _ hg0⟩, hp0.1, hp0.2⟩
  · exact FwV.of hkk hfile (by rw [hpool.2.1]; exact lm4eM.1) ⟨k, hkk, hres 25 _ (Lambda.resolvedOf_method lm4eM.1 lm4eM.2.1 ht htk lm4eM.2.2 hg)⟩ ⟨k, hkk, hres 21 _ (Lambda.resolvedOf_class lm4eC.1 lm4eC.2.2 lm4eC.2.1 ht)⟩ ht htk hitf hg (by decide) (hw _ q1018) (hw _ q1017) (hw _ qs21) (sig := ⟨[.object "OfferSky$Offer", .object "OfferSky$Offer"], some .boolean⟩) (by decide +kernel) rfl
def lm5s : Lambda.Shape := ({ iface := "OfferSky$Choice", name := "holds", sam := ({ parameters := [(Jvm.ClassFile.FieldType.object "java/lang/Object")], returnType := (Option.some Jvm.ClassFile.FieldType.boolean) } : Jvm.ClassFile.MethodDescriptor), captured := [(Jvm.ClassFile.FieldType.object "OfferSky$Bag")], kind := 6, implClass := "OfferSky$State", implName := "lambda$peeled$9", implDesc := ({ parameters := [(Jvm.ClassFile.FieldType.object "OfferSky$Bag"), (Jvm.ClassFile.FieldType.object "OfferSky$Offer")], returnType := (Option.some Jvm.ClassFile.FieldType.boolean) } : Jvm.ClassFile.MethodDescriptor), implItf := false, inst := ({ parameters := [(Jvm.ClassFile.FieldType.object "OfferSky$Offer")], returnType := (Option.some Jvm.ClassFile.FieldType.boolean) } : Jvm.ClassFile.MethodDescriptor) } : Jvm.Lambda.Shape)
theorem lm5q : ls_all[5]? = some (⟨"OfferSky$State", "peeled", "()[I"⟩, 73, 149, lm5s) := rfl
def lm5f : ByteArray := ⟨#[42, 180, 0, 15, 43, 192, 0, 19, 184, 0, 25, 172]⟩
theorem lm5d0 : decode lm5f 0 = .ok (.aload_n 0, 1) := by decide +kernel
theorem lm5d1 : decode lm5f 1 = .ok (.getfield 15, 3) := by decide +kernel
theorem lm5d4 : decode lm5f 4 = .ok (.aload_n 1, 1) := by decide +kernel
theorem lm5d5 : decode lm5f 5 = .ok (.checkcast 19, 3) := by decide +kernel
theorem lm5d8 : decode lm5f 8 = .ok (.invokestatic 25, 3) := by decide +kernel
theorem lm5d11 : decode lm5f 11 = .ok (.ireturn, 1) := by decide +kernel
def lm5D : ClassFile := (lm5s.file "OfferSky$State").getD { minorVersion := 0, majorVersion := 0, constantPool := #[], accessFlags := 0, thisClass := 0, superClass := 0, interfaces := #[], fields := #[], methods := #[], attributes := #[] }
def lm5M : Method := ((layoutMethods lm5D).bind (·[1]?)).getD default
def lm5L : Array Field × Array FieldType × Array FieldType := (layoutFields lm5D 0).getD (#[], #[], #[])
theorem lm5file : lm5s.file "OfferSky$State" = some lm5D := by
  have h : (lm5s.file "OfferSky$State").isSome = true := by decide +kernel
  obtain ⟨x, hx⟩ := Option.isSome_iff_exists.mp h
  simp [lm5D, hx]
theorem lm5second : ∀ ms, layoutMethods lm5D = some ms → ms[1]? = some lm5M := by
  intro ms hms
  have h : ((layoutMethods lm5D).bind (·[1]?)).isSome = true := by decide +kernel
  obtain ⟨x, hx⟩ := Option.isSome_iff_exists.mp h
  have hf : lm5M = x := by simp [lm5M, hx]
  rw [hms] at hx
  rw [hf]
  exact hx
theorem lm5laid : layoutFields lm5D 0 = some lm5L := by
  have h : (layoutFields lm5D 0).isSome = true := by decide +kernel
  obtain ⟨x, hx⟩ := Option.isSome_iff_exists.mp h
  simp [lm5L, hx]
theorem lm5code : (lm5M.code.map fun c => (c.code.data, c.maxLocals)) = some (lm5f.data, 2) := by decide +kernel
theorem lm5flags : (lm5M.accessFlags, lm5M.name, lm5M.sig.returnType) = (0x0001, "holds", (some .boolean : Option FieldType)) := by decide +kernel
theorem lm5eM : lm5D.constantPool[25]? = some (.methodref 21 24) ∧ lm5D.constantPool.className? 21 = some "OfferSky$State" ∧ lm5D.constantPool.nameAndType? 24 = some ("lambda$peeled$9", "(LOfferSky$Bag;LOfferSky$Offer;)Z") := by decide +kernel
theorem lm5eC : lm5D.constantPool[21]? = some (.class_ 20) ∧ lm5D.constantPool.string? 20 = some "OfferSky$State" ∧ 21 ≠ lm5D.thisClass := by decide +kernel
theorem lm5eO : lm5D.constantPool[19]? = some (.class_ 18) ∧ lm5D.constantPool.string? 18 = some "OfferSky$Offer" ∧ 19 ≠ lm5D.thisClass := by decide +kernel
theorem lm5eF0 : lm5D.constantPool[15]? = some (.fieldref 2 14) ∧ lm5D.constantPool.nameAndType? 14 = some ("arg$1", "LOfferSky$Bag;") ∧ lm5L.1.findIdx? (·.name == "arg$1") = some 0 ∧ (lm5L.1[0]?).map (fun f => (f.isStatic, f.slot)) = some (false, 0) := by decide +kernel
theorem lm5types : lm5L.2.1 = #[.object "OfferSky$Bag"] := by decide +kernel
set_option maxHeartbeats 4000000 in
theorem lm5 {g : GT} {U : State} {A : Array Value} (hKV : KV g U) (hw : ∀ w ∈ lw_all, w.before A U = true) : (FwB U (gL g 5) lm5f 2 ∧ (∃ kC, U.vm.classes[gL g 5]? = some kC ∧ kC.instanceTypes = #[.object "OfferSky$Bag"] ∧ kC.kind = .ordinary)) ∧ (FwF U (gL g 5) 15 0) ∧ FwC U (gL g 5) 19 "OfferSky$Offer" ∧ (∀ e : Env, FwS e U (gL g 5) 25 yX2_lambda_peeled_9 2) := by
  have hs : U.lambdaAt? ⟨"OfferSky$State", "peeled", "()[I"⟩ 73 149 lm5s = some (gL g 5, none) := hKV.2.2.2.1 5 _ lm5q
  obtain ⟨m, kc, cf0, i0, p0, l, hm, hk, hcf0, hsh, hin, hfind, hmade, hcall, hl⟩ := State.lambdaAt?_spec hs
  obtain ⟨kc', hkc', hname⟩ := className_of_methodNamed hm
  cases hk.symm.trans hkc'
  obtain ⟨cO, kO, hfO, hkO, -, -, -, hszO⟩ := Cond.instantiable_spec (hw _ q2342)
  obtain ⟨dk', k, ok, tk, file, cf, object, iface, toy, lay, methods, target, found, hd', hkk, hfile, hcf, hobj, -, hok, hlay, hms, ht, htk, hg, -, hrec, -, -, -, hitf, hpool, hmeth, hfields, hty, hres, -⟩ := Lambda.isMade_spec hmade
  cases hk.symm.trans hd'
  rw [hname] at hcf
  have hcf : lm5s.file "OfferSky$State" = some cf := hcf
  rw [lm5file] at hcf
  cases hcf
  cases hobj.symm.trans hfO
  cases hok.symm.trans hkO
  have hok0 : kO.instanceTypes = #[] := Array.eq_empty_of_size_eq_zero hszO
  rw [hszO, lm5laid] at hlay
  cases hlay
  obtain ⟨b, hbm, hsame⟩ := hmeth 1 lm5M (lm5second methods hms)
  obtain ⟨hn, -, hsig, hfl, x, yy, hfc, hbc, -, hmxl, hcc, -⟩ := Lambda.sameMethod_spec hsame
  have fc := lm5code
  have ff := lm5flags
  simp only [Prod.mk.injEq] at ff
  simp only [hfc, Option.map_some, Option.some.injEq, Prod.mk.injEq] at fc
  have hkn : k.name = "OfferSky$State$$Lambda" := by rw [hrec.1, hname]; rfl
  have hO1 : U.vm.findClass "OfferSky$Offer" = some ((gD g).1 5) := (hKV.1.1 5 _ rfl).2.1
  obtain ⟨kOf, hkOf, -⟩ := (hKV.1.1 5 _ rfl).2.2
  have hmk : U.vm.method? ⟨gL g 5, 1⟩ = some b := by simp [Vm.method?, hkk, hbm]
  refine ⟨⟨⟨b, yy, hmk, hbc, ?_, State.plainMethod.of_name (fun k' hk' => by cases hkk.symm.trans hk'; rw [hkn]; decide), by rw [hmxl]; exact fc.2, by rw [hcc]; exact ByteArray.ext fc.1, by rw [hsig]; exact ff.2.2, by rw [hfl]; exact ff.1⟩, k, hkk, by rw [hty.1, hok0, lm5types]; rfl, hrec.2.1⟩, ?_, ⟨(gD g).1 5, kOf, ⟨k, hkk, hres 19 _ (Lambda.resolvedOf_class lm5eO.1 lm5eO.2.2 lm5eO.2.1 hO1)⟩, hO1, hkOf⟩, ?_⟩
  · simp [Method.locks, Method.isSynchronized, hfl, ff.1, hasFlag, Acc.synchronized]
  · obtain ⟨g0, hg0, hp0⟩ := Option.map_eq_some_iff.mp lm5eF0.2.2.2
    simp only [Prod.mk.injEq] at hp0
    exact ⟨g0, ⟨k, 0, k, hkk, hres 15 _ (Lambda.resolvedOf_field lm5eF0.1 lm5eF0.2.1 lm5eF0.2.2.1), hkk, hfields 0 _ hg0⟩, hp0.1, hp0.2⟩
  · intro e
    exact FwS.of hkk hfile (by rw [hpool.2.1]; exact lm5eM.1) (by rw [hpool.2.1]; exact lm5eM.2.2) ⟨k, hkk, hres 25 _ (Lambda.resolvedOf_method lm5eM.1 lm5eM.2.1 ht htk lm5eM.2.2 hg)⟩ ⟨k, hkk, hres 21 _ (Lambda.resolvedOf_class lm5eC.1 lm5eC.2.2 lm5eC.2.1 ht)⟩ ht htk hg (by decide) (hw _ q1078) (hw _ q1077) (hw _ q100) (sig := ⟨[.object "OfferSky$Bag", .object "OfferSky$Offer"], some .boolean⟩) (by decide +kernel) rfl
def lm6s : Lambda.Shape := ({ iface := "OfferSky$Choice", name := "holds", sam := ({ parameters := [(Jvm.ClassFile.FieldType.object "java/lang/Object")], returnType := (Option.some Jvm.ClassFile.FieldType.boolean) } : Jvm.ClassFile.MethodDescriptor), captured := [(Jvm.ClassFile.FieldType.object "OfferSky$Offer")], kind := 6, implClass := "OfferSky$State", implName := "lambda$peeled$8", implDesc := ({ parameters := [(Jvm.ClassFile.FieldType.object "OfferSky$Offer"), (Jvm.ClassFile.FieldType.object "OfferSky$Offer")], returnType := (Option.some Jvm.ClassFile.FieldType.boolean) } : Jvm.ClassFile.MethodDescriptor), implItf := false, inst := ({ parameters := [(Jvm.ClassFile.FieldType.object "OfferSky$Offer")], returnType := (Option.some Jvm.ClassFile.FieldType.boolean) } : Jvm.ClassFile.MethodDescriptor) } : Jvm.Lambda.Shape)
theorem lm6q : ls_all[6]? = some (⟨"OfferSky$State", "lambda$peeled$9", "(LOfferSky$Bag;LOfferSky$Offer;)Z"⟩, 2, 254, lm6s) := rfl
def lm6f : ByteArray := ⟨#[42, 180, 0, 15, 43, 192, 0, 19, 184, 0, 25, 172]⟩
theorem lm6d0 : decode lm6f 0 = .ok (.aload_n 0, 1) := by decide +kernel
theorem lm6d1 : decode lm6f 1 = .ok (.getfield 15, 3) := by decide +kernel
theorem lm6d4 : decode lm6f 4 = .ok (.aload_n 1, 1) := by decide +kernel
theorem lm6d5 : decode lm6f 5 = .ok (.checkcast 19, 3) := by decide +kernel
theorem lm6d8 : decode lm6f 8 = .ok (.invokestatic 25, 3) := by decide +kernel
theorem lm6d11 : decode lm6f 11 = .ok (.ireturn, 1) := by decide +kernel
def lm6D : ClassFile := (lm6s.file "OfferSky$State").getD { minorVersion := 0, majorVersion := 0, constantPool := #[], accessFlags := 0, thisClass := 0, superClass := 0, interfaces := #[], fields := #[], methods := #[], attributes := #[] }
def lm6M : Method := ((layoutMethods lm6D).bind (·[1]?)).getD default
def lm6L : Array Field × Array FieldType × Array FieldType := (layoutFields lm6D 0).getD (#[], #[], #[])
theorem lm6file : lm6s.file "OfferSky$State" = some lm6D := by
  have h : (lm6s.file "OfferSky$State").isSome = true := by decide +kernel
  obtain ⟨x, hx⟩ := Option.isSome_iff_exists.mp h
  simp [lm6D, hx]
theorem lm6second : ∀ ms, layoutMethods lm6D = some ms → ms[1]? = some lm6M := by
  intro ms hms
  have h : ((layoutMethods lm6D).bind (·[1]?)).isSome = true := by decide +kernel
  obtain ⟨x, hx⟩ := Option.isSome_iff_exists.mp h
  have hf : lm6M = x := by simp [lm6M, hx]
  rw [hms] at hx
  rw [hf]
  exact hx
theorem lm6laid : layoutFields lm6D 0 = some lm6L := by
  have h : (layoutFields lm6D 0).isSome = true := by decide +kernel
  obtain ⟨x, hx⟩ := Option.isSome_iff_exists.mp h
  simp [lm6L, hx]
theorem lm6code : (lm6M.code.map fun c => (c.code.data, c.maxLocals)) = some (lm6f.data, 2) := by decide +kernel
theorem lm6flags : (lm6M.accessFlags, lm6M.name, lm6M.sig.returnType) = (0x0001, "holds", (some .boolean : Option FieldType)) := by decide +kernel
theorem lm6eM : lm6D.constantPool[25]? = some (.methodref 21 24) ∧ lm6D.constantPool.className? 21 = some "OfferSky$State" ∧ lm6D.constantPool.nameAndType? 24 = some ("lambda$peeled$8", "(LOfferSky$Offer;LOfferSky$Offer;)Z") := by decide +kernel
theorem lm6eC : lm6D.constantPool[21]? = some (.class_ 20) ∧ lm6D.constantPool.string? 20 = some "OfferSky$State" ∧ 21 ≠ lm6D.thisClass := by decide +kernel
theorem lm6eO : lm6D.constantPool[19]? = some (.class_ 18) ∧ lm6D.constantPool.string? 18 = some "OfferSky$Offer" ∧ 19 ≠ lm6D.thisClass := by decide +kernel
theorem lm6eF0 : lm6D.constantPool[15]? = some (.fieldref 2 14) ∧ lm6D.constantPool.nameAndType? 14 = some ("arg$1", "LOfferSky$Offer;") ∧ lm6L.1.findIdx? (·.name == "arg$1") = some 0 ∧ (lm6L.1[0]?).map (fun f => (f.isStatic, f.slot)) = some (false, 0) := by decide +kernel
theorem lm6types : lm6L.2.1 = #[.object "OfferSky$Offer"] := by decide +kernel
set_option maxHeartbeats 4000000 in
theorem lm6 {g : GT} {U : State} {A : Array Value} (hKV : KV g U) (hw : ∀ w ∈ lw_all, w.before A U = true) : (FwB U (gL g 6) lm6f 2 ∧ (∃ kC, U.vm.classes[gL g 6]? = some kC ∧ kC.instanceTypes = #[.object "OfferSky$Offer"] ∧ kC.kind = .ordinary)) ∧ (FwF U (gL g 6) 15 0) ∧ FwC U (gL g 6) 19 "OfferSky$Offer" ∧ (∀ e : Env, FwS e U (gL g 6) 25 yX2_lambda_peeled_8 2) := by
  have hs : U.lambdaAt? ⟨"OfferSky$State", "lambda$peeled$9", "(LOfferSky$Bag;LOfferSky$Offer;)Z"⟩ 2 254 lm6s = some (gL g 6, none) := hKV.2.2.2.1 6 _ lm6q
  obtain ⟨m, kc, cf0, i0, p0, l, hm, hk, hcf0, hsh, hin, hfind, hmade, hcall, hl⟩ := State.lambdaAt?_spec hs
  obtain ⟨kc', hkc', hname⟩ := className_of_methodNamed hm
  cases hk.symm.trans hkc'
  obtain ⟨cO, kO, hfO, hkO, -, -, -, hszO⟩ := Cond.instantiable_spec (hw _ q2342)
  obtain ⟨dk', k, ok, tk, file, cf, object, iface, toy, lay, methods, target, found, hd', hkk, hfile, hcf, hobj, -, hok, hlay, hms, ht, htk, hg, -, hrec, -, -, -, hitf, hpool, hmeth, hfields, hty, hres, -⟩ := Lambda.isMade_spec hmade
  cases hk.symm.trans hd'
  rw [hname] at hcf
  have hcf : lm6s.file "OfferSky$State" = some cf := hcf
  rw [lm6file] at hcf
  cases hcf
  cases hobj.symm.trans hfO
  cases hok.symm.trans hkO
  have hok0 : kO.instanceTypes = #[] := Array.eq_empty_of_size_eq_zero hszO
  rw [hszO, lm6laid] at hlay
  cases hlay
  obtain ⟨b, hbm, hsame⟩ := hmeth 1 lm6M (lm6second methods hms)
  obtain ⟨hn, -, hsig, hfl, x, yy, hfc, hbc, -, hmxl, hcc, -⟩ := Lambda.sameMethod_spec hsame
  have fc := lm6code
  have ff := lm6flags
  simp only [Prod.mk.injEq] at ff
  simp only [hfc, Option.map_some, Option.some.injEq, Prod.mk.injEq] at fc
  have hkn : k.name = "OfferSky$State$$Lambda" := by rw [hrec.1, hname]; rfl
  have hO1 : U.vm.findClass "OfferSky$Offer" = some ((gD g).1 5) := (hKV.1.1 5 _ rfl).2.1
  obtain ⟨kOf, hkOf, -⟩ := (hKV.1.1 5 _ rfl).2.2
  have hmk : U.vm.method? ⟨gL g 6, 1⟩ = some b := by simp [Vm.method?, hkk, hbm]
  refine ⟨⟨⟨b, yy, hmk, hbc, ?_, State.plainMethod.of_name (fun k' hk' => by cases hkk.symm.trans hk'; rw [hkn]; decide), by rw [hmxl]; exact fc.2, by rw [hcc]; exact ByteArray.ext fc.1, by rw [hsig]; exact ff.2.2, by rw [hfl]; exact ff.1⟩, k, hkk, by rw [hty.1, hok0, lm6types]; rfl, hrec.2.1⟩, ?_, ⟨(gD g).1 5, kOf, ⟨k, hkk, hres 19 _ (Lambda.resolvedOf_class lm6eO.1 lm6eO.2.2 lm6eO.2.1 hO1)⟩, hO1, hkOf⟩, ?_⟩
  · simp [Method.locks, Method.isSynchronized, hfl, ff.1, hasFlag, Acc.synchronized]
  · obtain ⟨g0, hg0, hp0⟩ := Option.map_eq_some_iff.mp lm6eF0.2.2.2
    simp only [Prod.mk.injEq] at hp0
    exact ⟨g0, ⟨k, 0, k, hkk, hres 15 _ (Lambda.resolvedOf_field lm6eF0.1 lm6eF0.2.1 lm6eF0.2.2.1), hkk, hfields 0 _ hg0⟩, hp0.1, hp0.2⟩
  · intro e
    exact FwS.of hkk hfile (by rw [hpool.2.1]; exact lm6eM.1) (by rw [hpool.2.1]; exact lm6eM.2.2) ⟨k, hkk, hres 25 _ (Lambda.resolvedOf_method lm6eM.1 lm6eM.2.1 ht htk lm6eM.2.2 hg)⟩ ⟨k, hkk, hres 21 _ (Lambda.resolvedOf_class lm6eC.1 lm6eC.2.2 lm6eC.2.1 ht)⟩ ht htk hg (by decide) (hw _ q1080) (hw _ q1079) (hw _ q100) (sig := ⟨[.object "OfferSky$Offer", .object "OfferSky$Offer"], some .boolean⟩) (by decide +kernel) rfl
def lm7s : Lambda.Shape := ({ iface := "OfferSky$Choice", name := "holds", sam := ({ parameters := [(Jvm.ClassFile.FieldType.object "java/lang/Object")], returnType := (Option.some Jvm.ClassFile.FieldType.boolean) } : Jvm.ClassFile.MethodDescriptor), captured := [(Jvm.ClassFile.FieldType.object "OfferSky$State"), (Jvm.ClassFile.FieldType.object "OfferSky$Offer")], kind := 5, implClass := "OfferSky$State", implName := "lambda$beaten$5", implDesc := ({ parameters := [(Jvm.ClassFile.FieldType.object "OfferSky$Offer"), (Jvm.ClassFile.FieldType.object "OfferSky$Offer")], returnType := (Option.some Jvm.ClassFile.FieldType.boolean) } : Jvm.ClassFile.MethodDescriptor), implItf := false, inst := ({ parameters := [(Jvm.ClassFile.FieldType.object "OfferSky$Offer")], returnType := (Option.some Jvm.ClassFile.FieldType.boolean) } : Jvm.ClassFile.MethodDescriptor) } : Jvm.Lambda.Shape)
theorem lm7q : ls_all[7]? = some (⟨"OfferSky$State", "beaten", "(LOfferSky$Offer;)I"⟩, 19, 125, lm7s) := rfl
def lm7f : ByteArray := ⟨#[42, 180, 0, 17, 42, 180, 0, 19, 43, 192, 0, 23, 182, 0, 29, 172]⟩
theorem lm7d0 : decode lm7f 0 = .ok (.aload_n 0, 1) := by decide +kernel
theorem lm7d1 : decode lm7f 1 = .ok (.getfield 17, 3) := by decide +kernel
theorem lm7d4 : decode lm7f 4 = .ok (.aload_n 0, 1) := by decide +kernel
theorem lm7d5 : decode lm7f 5 = .ok (.getfield 19, 3) := by decide +kernel
theorem lm7d8 : decode lm7f 8 = .ok (.aload_n 1, 1) := by decide +kernel
theorem lm7d9 : decode lm7f 9 = .ok (.checkcast 23, 3) := by decide +kernel
theorem lm7d12 : decode lm7f 12 = .ok (.invokevirtual 29, 3) := by decide +kernel
theorem lm7d15 : decode lm7f 15 = .ok (.ireturn, 1) := by decide +kernel
def lm7D : ClassFile := (lm7s.file "OfferSky$State").getD { minorVersion := 0, majorVersion := 0, constantPool := #[], accessFlags := 0, thisClass := 0, superClass := 0, interfaces := #[], fields := #[], methods := #[], attributes := #[] }
def lm7M : Method := ((layoutMethods lm7D).bind (·[1]?)).getD default
def lm7L : Array Field × Array FieldType × Array FieldType := (layoutFields lm7D 0).getD (#[], #[], #[])
theorem lm7file : lm7s.file "OfferSky$State" = some lm7D := by
  have h : (lm7s.file "OfferSky$State").isSome = true := by decide +kernel
  obtain ⟨x, hx⟩ := Option.isSome_iff_exists.mp h
  simp [lm7D, hx]
theorem lm7second : ∀ ms, layoutMethods lm7D = some ms → ms[1]? = some lm7M := by
  intro ms hms
  have h : ((layoutMethods lm7D).bind (·[1]?)).isSome = true := by decide +kernel
  obtain ⟨x, hx⟩ := Option.isSome_iff_exists.mp h
  have hf : lm7M = x := by simp [lm7M, hx]
  rw [hms] at hx
  rw [hf]
  exact hx
theorem lm7laid : layoutFields lm7D 0 = some lm7L := by
  have h : (layoutFields lm7D 0).isSome = true := by decide +kernel
  obtain ⟨x, hx⟩ := Option.isSome_iff_exists.mp h
  simp [lm7L, hx]
theorem lm7code : (lm7M.code.map fun c => (c.code.data, c.maxLocals)) = some (lm7f.data, 2) := by decide +kernel
theorem lm7flags : (lm7M.accessFlags, lm7M.name, lm7M.sig.returnType) = (0x0001, "holds", (some .boolean : Option FieldType)) := by decide +kernel
theorem lm7eM : lm7D.constantPool[29]? = some (.methodref 25 28) ∧ lm7D.constantPool.className? 25 = some "OfferSky$State" ∧ lm7D.constantPool.nameAndType? 28 = some ("lambda$beaten$5", "(LOfferSky$Offer;LOfferSky$Offer;)Z") := by decide +kernel
theorem lm7eC : lm7D.constantPool[25]? = some (.class_ 24) ∧ lm7D.constantPool.string? 24 = some "OfferSky$State" ∧ 25 ≠ lm7D.thisClass := by decide +kernel
theorem lm7eO : lm7D.constantPool[23]? = some (.class_ 22) ∧ lm7D.constantPool.string? 22 = some "OfferSky$Offer" ∧ 23 ≠ lm7D.thisClass := by decide +kernel
theorem lm7eF0 : lm7D.constantPool[17]? = some (.fieldref 2 16) ∧ lm7D.constantPool.nameAndType? 16 = some ("arg$1", "LOfferSky$State;") ∧ lm7L.1.findIdx? (·.name == "arg$1") = some 0 ∧ (lm7L.1[0]?).map (fun f => (f.isStatic, f.slot)) = some (false, 0) := by decide +kernel
theorem lm7eF1 : lm7D.constantPool[19]? = some (.fieldref 2 18) ∧ lm7D.constantPool.nameAndType? 18 = some ("arg$2", "LOfferSky$Offer;") ∧ lm7L.1.findIdx? (·.name == "arg$2") = some 1 ∧ (lm7L.1[1]?).map (fun f => (f.isStatic, f.slot)) = some (false, 1) := by decide +kernel
theorem lm7types : lm7L.2.1 = #[.object "OfferSky$State", .object "OfferSky$Offer"] := by decide +kernel
set_option maxHeartbeats 4000000 in
theorem lm7 {g : GT} {U : State} {A : Array Value} (hKV : KV g U) (hw : ∀ w ∈ lw_all, w.before A U = true) : (FwB U (gL g 7) lm7f 2 ∧ (∃ kC, U.vm.classes[gL g 7]? = some kC ∧ kC.instanceTypes = #[.object "OfferSky$State", .object "OfferSky$Offer"] ∧ kC.kind = .ordinary)) ∧ (FwF U (gL g 7) 17 0 ∧ FwF U (gL g 7) 19 1) ∧ FwC U (gL g 7) 23 "OfferSky$Offer" ∧ (FwV U (gL g 7) 29 yX2_lambda_beaten_5 2) := by
  have hs : U.lambdaAt? ⟨"OfferSky$State", "beaten", "(LOfferSky$Offer;)I"⟩ 19 125 lm7s = some (gL g 7, none) := hKV.2.2.2.1 7 _ lm7q
  obtain ⟨m, kc, cf0, i0, p0, l, hm, hk, hcf0, hsh, hin, hfind, hmade, hcall, hl⟩ := State.lambdaAt?_spec hs
  obtain ⟨kc', hkc', hname⟩ := className_of_methodNamed hm
  cases hk.symm.trans hkc'
  obtain ⟨cO, kO, hfO, hkO, -, -, -, hszO⟩ := Cond.instantiable_spec (hw _ q2342)
  obtain ⟨dk', k, ok, tk, file, cf, object, iface, toy, lay, methods, target, found, hd', hkk, hfile, hcf, hobj, -, hok, hlay, hms, ht, htk, hg, -, hrec, -, -, -, hitf, hpool, hmeth, hfields, hty, hres, -⟩ := Lambda.isMade_spec hmade
  cases hk.symm.trans hd'
  rw [hname] at hcf
  have hcf : lm7s.file "OfferSky$State" = some cf := hcf
  rw [lm7file] at hcf
  cases hcf
  cases hobj.symm.trans hfO
  cases hok.symm.trans hkO
  have hok0 : kO.instanceTypes = #[] := Array.eq_empty_of_size_eq_zero hszO
  rw [hszO, lm7laid] at hlay
  cases hlay
  obtain ⟨b, hbm, hsame⟩ := hmeth 1 lm7M (lm7second methods hms)
  obtain ⟨hn, -, hsig, hfl, x, yy, hfc, hbc, -, hmxl, hcc, -⟩ := Lambda.sameMethod_spec hsame
  have fc := lm7code
  have ff := lm7flags
  simp only [Prod.mk.injEq] at ff
  simp only [hfc, Option.map_some, Option.some.injEq, Prod.mk.injEq] at fc
  have hkn : k.name = "OfferSky$State$$Lambda" := by rw [hrec.1, hname]; rfl
  have hO1 : U.vm.findClass "OfferSky$Offer" = some ((gD g).1 5) := (hKV.1.1 5 _ rfl).2.1
  obtain ⟨kOf, hkOf, -⟩ := (hKV.1.1 5 _ rfl).2.2
  have hmk : U.vm.method? ⟨gL g 7, 1⟩ = some b := by simp [Vm.method?, hkk, hbm]
  refine ⟨⟨⟨b, yy, hmk, hbc, ?_, State.plainMethod.of_name (fun k' hk' => by cases hkk.symm.trans hk'; rw [hkn]; decide), by rw [hmxl]; exact fc.2, by rw [hcc]; exact ByteArray.ext fc.1, by rw [hsig]; exact ff.2.2, by rw [hfl]; exact ff.1⟩, k, hkk, by rw [hty.1, hok0, lm7types]; rfl, hrec.2.1⟩, ⟨?_, ?_⟩, ⟨(gD g).1 5, kOf, ⟨k, hkk, hres 23 _ (Lambda.resolvedOf_class lm7eO.1 lm7eO.2.2 lm7eO.2.1 hO1)⟩, hO1, hkOf⟩, ?_⟩
  · simp [Method.locks, Method.isSynchronized, hfl, ff.1, hasFlag, Acc.synchronized]
  · obtain ⟨g0, hg0, hp0⟩ := Option.map_eq_some_iff.mp lm7eF0.2.2.2
    simp only [Prod.mk.injEq] at hp0
    exact ⟨g0, ⟨k, 0, k, hkk, hres 17 _ (Lambda.resolvedOf_field lm7eF0.1 lm7eF0.2.1 lm7eF0.2.2.1), hkk, hfields 0 _ hg0⟩, hp0.1, hp0.2⟩
  · obtain ⟨g0, hg0, hp0⟩ := Option.map_eq_some_iff.mp lm7eF1.2.2.2
    simp only [Prod.mk.injEq] at hp0
    exact ⟨g0, ⟨k, 1, k, hkk, hres 19 _ (Lambda.resolvedOf_field lm7eF1.1 lm7eF1.2.1 lm7eF1.2.2.1), hkk, hfields 1 _ hg0⟩, hp0.1, hp0.2⟩
  · exact FwV.of hkk hfile (by rw [hpool.2.1]; exact lm7eM.1) ⟨k, hkk, hres 29 _ (Lambda.resolvedOf_method lm7eM.1 lm7eM.2.1 ht htk lm7eM.2.2 hg)⟩ ⟨k, hkk, hres 25 _ (Lambda.resolvedOf_class lm7eC.1 lm7eC.2.2 lm7eC.2.1 ht)⟩ ht htk hitf hg (by decide) (hw _ q1125) (hw _ q1124) (hw _ qs25) (sig := ⟨[.object "OfferSky$Offer", .object "OfferSky$Offer"], some .boolean⟩) (by decide +kernel) rfl
def lm8s : Lambda.Shape := ({ iface := "OfferSky$Choice", name := "holds", sam := ({ parameters := [(Jvm.ClassFile.FieldType.object "java/lang/Object")], returnType := (Option.some Jvm.ClassFile.FieldType.boolean) } : Jvm.ClassFile.MethodDescriptor), captured := [(Jvm.ClassFile.FieldType.object "OfferSky$State"), (Jvm.ClassFile.FieldType.object "OfferSky$Offer")], kind := 5, implClass := "OfferSky$State", implName := "lambda$window$6", implDesc := ({ parameters := [(Jvm.ClassFile.FieldType.object "OfferSky$Offer"), (Jvm.ClassFile.FieldType.object "OfferSky$Offer")], returnType := (Option.some Jvm.ClassFile.FieldType.boolean) } : Jvm.ClassFile.MethodDescriptor), implItf := false, inst := ({ parameters := [(Jvm.ClassFile.FieldType.object "OfferSky$Offer")], returnType := (Option.some Jvm.ClassFile.FieldType.boolean) } : Jvm.ClassFile.MethodDescriptor) } : Jvm.Lambda.Shape)
theorem lm8q : ls_all[8]? = some (⟨"OfferSky$State", "window", "()LOfferSky$Bag;"⟩, 58, 134, lm8s) := rfl
def lm8f : ByteArray := ⟨#[42, 180, 0, 17, 42, 180, 0, 19, 43, 192, 0, 23, 182, 0, 29, 172]⟩
theorem lm8d0 : decode lm8f 0 = .ok (.aload_n 0, 1) := by decide +kernel
theorem lm8d1 : decode lm8f 1 = .ok (.getfield 17, 3) := by decide +kernel
theorem lm8d4 : decode lm8f 4 = .ok (.aload_n 0, 1) := by decide +kernel
theorem lm8d5 : decode lm8f 5 = .ok (.getfield 19, 3) := by decide +kernel
theorem lm8d8 : decode lm8f 8 = .ok (.aload_n 1, 1) := by decide +kernel
theorem lm8d9 : decode lm8f 9 = .ok (.checkcast 23, 3) := by decide +kernel
theorem lm8d12 : decode lm8f 12 = .ok (.invokevirtual 29, 3) := by decide +kernel
theorem lm8d15 : decode lm8f 15 = .ok (.ireturn, 1) := by decide +kernel
def lm8D : ClassFile := (lm8s.file "OfferSky$State").getD { minorVersion := 0, majorVersion := 0, constantPool := #[], accessFlags := 0, thisClass := 0, superClass := 0, interfaces := #[], fields := #[], methods := #[], attributes := #[] }
def lm8M : Method := ((layoutMethods lm8D).bind (·[1]?)).getD default
def lm8L : Array Field × Array FieldType × Array FieldType := (layoutFields lm8D 0).getD (#[], #[], #[])
theorem lm8file : lm8s.file "OfferSky$State" = some lm8D := by
  have h : (lm8s.file "OfferSky$State").isSome = true := by decide +kernel
  obtain ⟨x, hx⟩ := Option.isSome_iff_exists.mp h
  simp [lm8D, hx]
theorem lm8second : ∀ ms, layoutMethods lm8D = some ms → ms[1]? = some lm8M := by
  intro ms hms
  have h : ((layoutMethods lm8D).bind (·[1]?)).isSome = true := by decide +kernel
  obtain ⟨x, hx⟩ := Option.isSome_iff_exists.mp h
  have hf : lm8M = x := by simp [lm8M, hx]
  rw [hms] at hx
  rw [hf]
  exact hx
theorem lm8laid : layoutFields lm8D 0 = some lm8L := by
  have h : (layoutFields lm8D 0).isSome = true := by decide +kernel
  obtain ⟨x, hx⟩ := Option.isSome_iff_exists.mp h
  simp [lm8L, hx]
theorem lm8code : (lm8M.code.map fun c => (c.code.data, c.maxLocals)) = some (lm8f.data, 2) := by decide +kernel
theorem lm8flags : (lm8M.accessFlags, lm8M.name, lm8M.sig.returnType) = (0x0001, "holds", (some .boolean : Option FieldType)) := by decide +kernel
theorem lm8eM : lm8D.constantPool[29]? = some (.methodref 25 28) ∧ lm8D.constantPool.className? 25 = some "OfferSky$State" ∧ lm8D.constantPool.nameAndType? 28 = some ("lambda$window$6", "(LOfferSky$Offer;LOfferSky$Offer;)Z") := by decide +kernel
theorem lm8eC : lm8D.constantPool[25]? = some (.class_ 24) ∧ lm8D.constantPool.string? 24 = some "OfferSky$State" ∧ 25 ≠ lm8D.thisClass := by decide +kernel
theorem lm8eO : lm8D.constantPool[23]? = some (.class_ 22) ∧ lm8D.constantPool.string? 22 = some "OfferSky$Offer" ∧ 23 ≠ lm8D.thisClass := by decide +kernel
theorem lm8eF0 : lm8D.constantPool[17]? = some (.fieldref 2 16) ∧ lm8D.constantPool.nameAndType? 16 = some ("arg$1", "LOfferSky$State;") ∧ lm8L.1.findIdx? (·.name == "arg$1") = some 0 ∧ (lm8L.1[0]?).map (fun f => (f.isStatic, f.slot)) = some (false, 0) := by decide +kernel
theorem lm8eF1 : lm8D.constantPool[19]? = some (.fieldref 2 18) ∧ lm8D.constantPool.nameAndType? 18 = some ("arg$2", "LOfferSky$Offer;") ∧ lm8L.1.findIdx? (·.name == "arg$2") = some 1 ∧ (lm8L.1[1]?).map (fun f => (f.isStatic, f.slot)) = some (false, 1) := by decide +kernel
theorem lm8types : lm8L.2.1 = #[.object "OfferSky$State", .object "OfferSky$Offer"] := by decide +kernel
set_option maxHeartbeats 4000000 in
theorem lm8 {g : GT} {U : State} {A : Array Value} (hKV : KV g U) (hw : ∀ w ∈ lw_all, w.before A U = true) : (FwB U (gL g 8) lm8f 2 ∧ (∃ kC, U.vm.classes[gL g 8]? = some kC ∧ kC.instanceTypes = #[.object "OfferSky$State", .object "OfferSky$Offer"] ∧ kC.kind = .ordinary)) ∧ (FwF U (gL g 8) 17 0 ∧ FwF U (gL g 8) 19 1) ∧ FwC U (gL g 8) 23 "OfferSky$Offer" ∧ (FwV U (gL g 8) 29 yX2_lambda_window_6 2) := by
  have hs : U.lambdaAt? ⟨"OfferSky$State", "window", "()LOfferSky$Bag;"⟩ 58 134 lm8s = some (gL g 8, none) := hKV.2.2.2.1 8 _ lm8q
  obtain ⟨m, kc, cf0, i0, p0, l, hm, hk, hcf0, hsh, hin, hfind, hmade, hcall, hl⟩ := State.lambdaAt?_spec hs
  obtain ⟨kc', hkc', hname⟩ := className_of_methodNamed hm
  cases hk.symm.trans hkc'
  obtain ⟨cO, kO, hfO, hkO, -, -, -, hszO⟩ := Cond.instantiable_spec (hw _ q2342)
  obtain ⟨dk', k, ok, tk, file, cf, object, iface, toy, lay, methods, target, found, hd', hkk, hfile, hcf, hobj, -, hok, hlay, hms, ht, htk, hg, -, hrec, -, -, -, hitf, hpool, hmeth, hfields, hty, hres, -⟩ := Lambda.isMade_spec hmade
  cases hk.symm.trans hd'
  rw [hname] at hcf
  have hcf : lm8s.file "OfferSky$State" = some cf := hcf
  rw [lm8file] at hcf
  cases hcf
  cases hobj.symm.trans hfO
  cases hok.symm.trans hkO
  have hok0 : kO.instanceTypes = #[] := Array.eq_empty_of_size_eq_zero hszO
  rw [hszO, lm8laid] at hlay
  cases hlay
  obtain ⟨b, hbm, hsame⟩ := hmeth 1 lm8M (lm8second methods hms)
  obtain ⟨hn, -, hsig, hfl, x, yy, hfc, hbc, -, hmxl, hcc, -⟩ := Lambda.sameMethod_spec hsame
  have fc := lm8code
  have ff := lm8flags
  simp only [Prod.mk.injEq] at ff
  simp only [hfc, Option.map_some, Option.some.injEq, Prod.mk.injEq] at fc
  have hkn : k.name = "OfferSky$State$$Lambda" := by rw [hrec.1, hname]; rfl
  have hO1 : U.vm.findClass "OfferSky$Offer" = some ((gD g).1 5) := (hKV.1.1 5 _ rfl).2.1
  obtain ⟨kOf, hkOf, -⟩ := (hKV.1.1 5 _ rfl).2.2
  have hmk : U.vm.method? ⟨gL g 8, 1⟩ = some b := by simp [Vm.method?, hkk, hbm]
  refine ⟨⟨⟨b, yy, hmk, hbc, ?_, State.plainMethod.of_name (fun k' hk' => by cases hkk.symm.trans hk'; rw [hkn]; decide), by rw [hmxl]; exact fc.2, by rw [hcc]; exact ByteArray.ext fc.1, by rw [hsig]; exact ff.2.2, by rw [hfl]; exact ff.1⟩, k, hkk, by rw [hty.1, hok0, lm8types]; rfl, hrec.2.1⟩, ⟨?_, ?_⟩, ⟨(gD g).1 5, kOf, ⟨k, hkk, hres 23 _ (Lambda.resolvedOf_class lm8eO.1 lm8eO.2.2 lm8eO.2.1 hO1)⟩, hO1, hkOf⟩, ?_⟩
  · simp [Method.locks, Method.isSynchronized, hfl, ff.1, hasFlag, Acc.synchronized]
  · obtain ⟨g0, hg0, hp0⟩ := Option.map_eq_some_iff.mp lm8eF0.2.2.2
    simp only [Prod.mk.injEq] at hp0
    exact ⟨g0, ⟨k, 0, k, hkk, hres 17 _ (Lambda.resolvedOf_field lm8eF0.1 lm8eF0.2.1 lm8eF0.2.2.1), hkk, hfields 0 _ hg0⟩, hp0.1, hp0.2⟩
  · obtain ⟨g0, hg0, hp0⟩ := Option.map_eq_some_iff.mp lm8eF1.2.2.2
    simp only [Prod.mk.injEq] at hp0
    exact ⟨g0, ⟨k, 1, k, hkk, hres 19 _ (Lambda.resolvedOf_field lm8eF1.1 lm8eF1.2.1 lm8eF1.2.2.1), hkk, hfields 1 _ hg0⟩, hp0.1, hp0.2⟩
  · exact FwV.of hkk hfile (by rw [hpool.2.1]; exact lm8eM.1) ⟨k, hkk, hres 29 _ (Lambda.resolvedOf_method lm8eM.1 lm8eM.2.1 ht htk lm8eM.2.2 hg)⟩ ⟨k, hkk, hres 25 _ (Lambda.resolvedOf_class lm8eC.1 lm8eC.2.2 lm8eC.2.1 ht)⟩ ht htk hitf hg (by decide) (hw _ q1163) (hw _ q1162) (hw _ qs29) (sig := ⟨[.object "OfferSky$Offer", .object "OfferSky$Offer"], some .boolean⟩) (by decide +kernel) rfl
def lm9s : Lambda.Shape := ({ iface := "OfferSky$Choice", name := "holds", sam := ({ parameters := [(Jvm.ClassFile.FieldType.object "java/lang/Object")], returnType := (Option.some Jvm.ClassFile.FieldType.boolean) } : Jvm.ClassFile.MethodDescriptor), captured := [(Jvm.ClassFile.FieldType.object "OfferSky$State"), (Jvm.ClassFile.FieldType.object "OfferSky$Offer")], kind := 5, implClass := "OfferSky$State", implName := "lambda$beaters$4", implDesc := ({ parameters := [(Jvm.ClassFile.FieldType.object "OfferSky$Offer"), (Jvm.ClassFile.FieldType.object "OfferSky$Offer")], returnType := (Option.some Jvm.ClassFile.FieldType.boolean) } : Jvm.ClassFile.MethodDescriptor), implItf := false, inst := ({ parameters := [(Jvm.ClassFile.FieldType.object "OfferSky$Offer")], returnType := (Option.some Jvm.ClassFile.FieldType.boolean) } : Jvm.ClassFile.MethodDescriptor) } : Jvm.Lambda.Shape)
theorem lm9q : ls_all[9]? = some (⟨"OfferSky$State", "beaters", "(LOfferSky$Offer;)I"⟩, 19, 120, lm9s) := rfl
def lm9f : ByteArray := ⟨#[42, 180, 0, 17, 42, 180, 0, 19, 43, 192, 0, 23, 182, 0, 29, 172]⟩
theorem lm9d0 : decode lm9f 0 = .ok (.aload_n 0, 1) := by decide +kernel
theorem lm9d1 : decode lm9f 1 = .ok (.getfield 17, 3) := by decide +kernel
theorem lm9d4 : decode lm9f 4 = .ok (.aload_n 0, 1) := by decide +kernel
theorem lm9d5 : decode lm9f 5 = .ok (.getfield 19, 3) := by decide +kernel
theorem lm9d8 : decode lm9f 8 = .ok (.aload_n 1, 1) := by decide +kernel
theorem lm9d9 : decode lm9f 9 = .ok (.checkcast 23, 3) := by decide +kernel
theorem lm9d12 : decode lm9f 12 = .ok (.invokevirtual 29, 3) := by decide +kernel
theorem lm9d15 : decode lm9f 15 = .ok (.ireturn, 1) := by decide +kernel
def lm9D : ClassFile := (lm9s.file "OfferSky$State").getD { minorVersion := 0, majorVersion := 0, constantPool := #[], accessFlags := 0, thisClass := 0, superClass := 0, interfaces := #[], fields := #[], methods := #[], attributes := #[] }
def lm9M : Method := ((layoutMethods lm9D).bind (·[1]?)).getD default
def lm9L : Array Field × Array FieldType × Array FieldType := (layoutFields lm9D 0).getD (#[], #[], #[])
theorem lm9file : lm9s.file "OfferSky$State" = some lm9D := by
  have h : (lm9s.file "OfferSky$State").isSome = true := by decide +kernel
  obtain ⟨x, hx⟩ := Option.isSome_iff_exists.mp h
  simp [lm9D, hx]
theorem lm9second : ∀ ms, layoutMethods lm9D = some ms → ms[1]? = some lm9M := by
  intro ms hms
  have h : ((layoutMethods lm9D).bind (·[1]?)).isSome = true := by decide +kernel
  obtain ⟨x, hx⟩ := Option.isSome_iff_exists.mp h
  have hf : lm9M = x := by simp [lm9M, hx]
  rw [hms] at hx
  rw [hf]
  exact hx
theorem lm9laid : layoutFields lm9D 0 = some lm9L := by
  have h : (layoutFields lm9D 0).isSome = true := by decide +kernel
  obtain ⟨x, hx⟩ := Option.isSome_iff_exists.mp h
  simp [lm9L, hx]
theorem lm9code : (lm9M.code.map fun c => (c.code.data, c.maxLocals)) = some (lm9f.data, 2) := by decide +kernel
theorem lm9flags : (lm9M.accessFlags, lm9M.name, lm9M.sig.returnType) = (0x0001, "holds", (some .boolean : Option FieldType)) := by decide +kernel
theorem lm9eM : lm9D.constantPool[29]? = some (.methodref 25 28) ∧ lm9D.constantPool.className? 25 = some "OfferSky$State" ∧ lm9D.constantPool.nameAndType? 28 = some ("lambda$beaters$4", "(LOfferSky$Offer;LOfferSky$Offer;)Z") := by decide +kernel
theorem lm9eC : lm9D.constantPool[25]? = some (.class_ 24) ∧ lm9D.constantPool.string? 24 = some "OfferSky$State" ∧ 25 ≠ lm9D.thisClass := by decide +kernel
theorem lm9eO : lm9D.constantPool[23]? = some (.class_ 22) ∧ lm9D.constantPool.string? 22 = some "OfferSky$Offer" ∧ 23 ≠ lm9D.thisClass := by decide +kernel
theorem lm9eF0 : lm9D.constantPool[17]? = some (.fieldref 2 16) ∧ lm9D.constantPool.nameAndType? 16 = some ("arg$1", "LOfferSky$State;") ∧ lm9L.1.findIdx? (·.name == "arg$1") = some 0 ∧ (lm9L.1[0]?).map (fun f => (f.isStatic, f.slot)) = some (false, 0) := by decide +kernel
theorem lm9eF1 : lm9D.constantPool[19]? = some (.fieldref 2 18) ∧ lm9D.constantPool.nameAndType? 18 = some ("arg$2", "LOfferSky$Offer;") ∧ lm9L.1.findIdx? (·.name == "arg$2") = some 1 ∧ (lm9L.1[1]?).map (fun f => (f.isStatic, f.slot)) = some (false, 1) := by decide +kernel
theorem lm9types : lm9L.2.1 = #[.object "OfferSky$State", .object "OfferSky$Offer"] := by decide +kernel
set_option maxHeartbeats 4000000 in
theorem lm9 {g : GT} {U : State} {A : Array Value} (hKV : KV g U) (hw : ∀ w ∈ lw_all, w.before A U = true) : (FwB U (gL g 9) lm9f 2 ∧ (∃ kC, U.vm.classes[gL g 9]? = some kC ∧ kC.instanceTypes = #[.object "OfferSky$State", .object "OfferSky$Offer"] ∧ kC.kind = .ordinary)) ∧ (FwF U (gL g 9) 17 0 ∧ FwF U (gL g 9) 19 1) ∧ FwC U (gL g 9) 23 "OfferSky$Offer" ∧ (FwV U (gL g 9) 29 yX2_lambda_beaters_4 2) := by
  have hs : U.lambdaAt? ⟨"OfferSky$State", "beaters", "(LOfferSky$Offer;)I"⟩ 19 120 lm9s = some (gL g 9, none) := hKV.2.2.2.1 9 _ lm9q
  obtain ⟨m, kc, cf0, i0, p0, l, hm, hk, hcf0, hsh, hin, hfind, hmade, hcall, hl⟩ := State.lambdaAt?_spec hs
  obtain ⟨kc', hkc', hname⟩ := className_of_methodNamed hm
  cases hk.symm.trans hkc'
  obtain ⟨cO, kO, hfO, hkO, -, -, -, hszO⟩ := Cond.instantiable_spec (hw _ q2342)
  obtain ⟨dk', k, ok, tk, file, cf, object, iface, toy, lay, methods, target, found, hd', hkk, hfile, hcf, hobj, -, hok, hlay, hms, ht, htk, hg, -, hrec, -, -, -, hitf, hpool, hmeth, hfields, hty, hres, -⟩ := Lambda.isMade_spec hmade
  cases hk.symm.trans hd'
  rw [hname] at hcf
  have hcf : lm9s.file "OfferSky$State" = some cf := hcf
  rw [lm9file] at hcf
  cases hcf
  cases hobj.symm.trans hfO
  cases hok.symm.trans hkO
  have hok0 : kO.instanceTypes = #[] := Array.eq_empty_of_size_eq_zero hszO
  rw [hszO, lm9laid] at hlay
  cases hlay
  obtain ⟨b, hbm, hsame⟩ := hmeth 1 lm9M (lm9second methods hms)
  obtain ⟨hn, -, hsig, hfl, x, yy, hfc, hbc, -, hmxl, hcc, -⟩ := Lambda.sameMethod_spec hsame
  have fc := lm9code
  have ff := lm9flags
  simp only [Prod.mk.injEq] at ff
  simp only [hfc, Option.map_some, Option.some.injEq, Prod.mk.injEq] at fc
  have hkn : k.name = "OfferSky$State$$Lambda" := by rw [hrec.1, hname]; rfl
  have hO1 : U.vm.findClass "OfferSky$Offer" = some ((gD g).1 5) := (hKV.1.1 5 _ rfl).2.1
  obtain ⟨kOf, hkOf, -⟩ := (hKV.1.1 5 _ rfl).2.2
  have hmk : U.vm.method? ⟨gL g 9, 1⟩ = some b := by simp [Vm.method?, hkk, hbm]
  refine ⟨⟨⟨b, yy, hmk, hbc, ?_, State.plainMethod.of_name (fun k' hk' => by cases hkk.symm.trans hk'; rw [hkn]; decide), by rw [hmxl]; exact fc.2, by rw [hcc]; exact ByteArray.ext fc.1, by rw [hsig]; exact ff.2.2, by rw [hfl]; exact ff.1⟩, k, hkk, by rw [hty.1, hok0, lm9types]; rfl, hrec.2.1⟩, ⟨?_, ?_⟩, ⟨(gD g).1 5, kOf, ⟨k, hkk, hres 23 _ (Lambda.resolvedOf_class lm9eO.1 lm9eO.2.2 lm9eO.2.1 hO1)⟩, hO1, hkOf⟩, ?_⟩
  · simp [Method.locks, Method.isSynchronized, hfl, ff.1, hasFlag, Acc.synchronized]
  · obtain ⟨g0, hg0, hp0⟩ := Option.map_eq_some_iff.mp lm9eF0.2.2.2
    simp only [Prod.mk.injEq] at hp0
    exact ⟨g0, ⟨k, 0, k, hkk, hres 17 _ (Lambda.resolvedOf_field lm9eF0.1 lm9eF0.2.1 lm9eF0.2.2.1), hkk, hfields 0 _ hg0⟩, hp0.1, hp0.2⟩
  · obtain ⟨g0, hg0, hp0⟩ := Option.map_eq_some_iff.mp lm9eF1.2.2.2
    simp only [Prod.mk.injEq] at hp0
    exact ⟨g0, ⟨k, 1, k, hkk, hres 19 _ (Lambda.resolvedOf_field lm9eF1.1 lm9eF1.2.1 lm9eF1.2.2.1), hkk, hfields 1 _ hg0⟩, hp0.1, hp0.2⟩
  · exact FwV.of hkk hfile (by rw [hpool.2.1]; exact lm9eM.1) ⟨k, hkk, hres 29 _ (Lambda.resolvedOf_method lm9eM.1 lm9eM.2.1 ht htk lm9eM.2.2 hg)⟩ ⟨k, hkk, hres 25 _ (Lambda.resolvedOf_class lm9eC.1 lm9eC.2.2 lm9eC.2.1 ht)⟩ ht htk hitf hg (by decide) (hw _ q1185) (hw _ q1184) (hw _ qs31) (sig := ⟨[.object "OfferSky$Offer", .object "OfferSky$Offer"], some .boolean⟩) (by decide +kernel) rfl
def lm10s : Lambda.Shape := ({ iface := "OfferSky$Choice", name := "holds", sam := ({ parameters := [(Jvm.ClassFile.FieldType.object "java/lang/Object")], returnType := (Option.some Jvm.ClassFile.FieldType.boolean) } : Jvm.ClassFile.MethodDescriptor), captured := [(Jvm.ClassFile.FieldType.object "OfferSky$Offer")], kind := 6, implClass := "OfferSky", implName := "lambda$isInWindow$0", implDesc := ({ parameters := [(Jvm.ClassFile.FieldType.object "OfferSky$Offer"), (Jvm.ClassFile.FieldType.object "OfferSky$Offer")], returnType := (Option.some Jvm.ClassFile.FieldType.boolean) } : Jvm.ClassFile.MethodDescriptor), implItf := false, inst := ({ parameters := [(Jvm.ClassFile.FieldType.object "OfferSky$Offer")], returnType := (Option.some Jvm.ClassFile.FieldType.boolean) } : Jvm.ClassFile.MethodDescriptor) } : Jvm.Lambda.Shape)
theorem lm10q : ls_all[10]? = some (⟨"OfferSky", "isInWindow", "(LOfferSky$Bag;LOfferSky$Offer;)Z"⟩, 2, 221, lm10s) := rfl
def lm10f : ByteArray := ⟨#[42, 180, 0, 15, 43, 192, 0, 19, 184, 0, 25, 172]⟩
theorem lm10d0 : decode lm10f 0 = .ok (.aload_n 0, 1) := by decide +kernel
theorem lm10d1 : decode lm10f 1 = .ok (.getfield 15, 3) := by decide +kernel
theorem lm10d4 : decode lm10f 4 = .ok (.aload_n 1, 1) := by decide +kernel
theorem lm10d5 : decode lm10f 5 = .ok (.checkcast 19, 3) := by decide +kernel
theorem lm10d8 : decode lm10f 8 = .ok (.invokestatic 25, 3) := by decide +kernel
theorem lm10d11 : decode lm10f 11 = .ok (.ireturn, 1) := by decide +kernel
def lm10D : ClassFile := (lm10s.file "OfferSky").getD { minorVersion := 0, majorVersion := 0, constantPool := #[], accessFlags := 0, thisClass := 0, superClass := 0, interfaces := #[], fields := #[], methods := #[], attributes := #[] }
def lm10M : Method := ((layoutMethods lm10D).bind (·[1]?)).getD default
def lm10L : Array Field × Array FieldType × Array FieldType := (layoutFields lm10D 0).getD (#[], #[], #[])
theorem lm10file : lm10s.file "OfferSky" = some lm10D := by
  have h : (lm10s.file "OfferSky").isSome = true := by decide +kernel
  obtain ⟨x, hx⟩ := Option.isSome_iff_exists.mp h
  simp [lm10D, hx]
theorem lm10second : ∀ ms, layoutMethods lm10D = some ms → ms[1]? = some lm10M := by
  intro ms hms
  have h : ((layoutMethods lm10D).bind (·[1]?)).isSome = true := by decide +kernel
  obtain ⟨x, hx⟩ := Option.isSome_iff_exists.mp h
  have hf : lm10M = x := by simp [lm10M, hx]
  rw [hms] at hx
  rw [hf]
  exact hx
theorem lm10laid : layoutFields lm10D 0 = some lm10L := by
  have h : (layoutFields lm10D 0).isSome = true := by decide +kernel
  obtain ⟨x, hx⟩ := Option.isSome_iff_exists.mp h
  simp [lm10L, hx]
theorem lm10code : (lm10M.code.map fun c => (c.code.data, c.maxLocals)) = some (lm10f.data, 2) := by decide +kernel
theorem lm10flags : (lm10M.accessFlags, lm10M.name, lm10M.sig.returnType) = (0x0001, "holds", (some .boolean : Option FieldType)) := by decide +kernel
theorem lm10eM : lm10D.constantPool[25]? = some (.methodref 21 24) ∧ lm10D.constantPool.className? 21 = some "OfferSky" ∧ lm10D.constantPool.nameAndType? 24 = some ("lambda$isInWindow$0", "(LOfferSky$Offer;LOfferSky$Offer;)Z") := by decide +kernel
theorem lm10eC : lm10D.constantPool[21]? = some (.class_ 20) ∧ lm10D.constantPool.string? 20 = some "OfferSky" ∧ 21 ≠ lm10D.thisClass := by decide +kernel
theorem lm10eO : lm10D.constantPool[19]? = some (.class_ 18) ∧ lm10D.constantPool.string? 18 = some "OfferSky$Offer" ∧ 19 ≠ lm10D.thisClass := by decide +kernel
theorem lm10eF0 : lm10D.constantPool[15]? = some (.fieldref 2 14) ∧ lm10D.constantPool.nameAndType? 14 = some ("arg$1", "LOfferSky$Offer;") ∧ lm10L.1.findIdx? (·.name == "arg$1") = some 0 ∧ (lm10L.1[0]?).map (fun f => (f.isStatic, f.slot)) = some (false, 0) := by decide +kernel
theorem lm10types : lm10L.2.1 = #[.object "OfferSky$Offer"] := by decide +kernel
set_option maxHeartbeats 4000000 in
theorem lm10 {g : GT} {U : State} {A : Array Value} (hKV : KV g U) (hw : ∀ w ∈ lw_all, w.before A U = true) : (FwB U (gL g 10) lm10f 2 ∧ (∃ kC, U.vm.classes[gL g 10]? = some kC ∧ kC.instanceTypes = #[.object "OfferSky$Offer"] ∧ kC.kind = .ordinary)) ∧ (FwF U (gL g 10) 15 0) ∧ FwC U (gL g 10) 19 "OfferSky$Offer" ∧ (∀ e : Env, FwS e U (gL g 10) 25 yX1_lambda_isInWindow_0 2) := by
  have hs : U.lambdaAt? ⟨"OfferSky", "isInWindow", "(LOfferSky$Bag;LOfferSky$Offer;)Z"⟩ 2 221 lm10s = some (gL g 10, none) := hKV.2.2.2.1 10 _ lm10q
  obtain ⟨m, kc, cf0, i0, p0, l, hm, hk, hcf0, hsh, hin, hfind, hmade, hcall, hl⟩ := State.lambdaAt?_spec hs
  obtain ⟨kc', hkc', hname⟩ := className_of_methodNamed hm
  cases hk.symm.trans hkc'
  obtain ⟨cO, kO, hfO, hkO, -, -, -, hszO⟩ := Cond.instantiable_spec (hw _ q2342)
  obtain ⟨dk', k, ok, tk, file, cf, object, iface, toy, lay, methods, target, found, hd', hkk, hfile, hcf, hobj, -, hok, hlay, hms, ht, htk, hg, -, hrec, -, -, -, hitf, hpool, hmeth, hfields, hty, hres, -⟩ := Lambda.isMade_spec hmade
  cases hk.symm.trans hd'
  rw [hname] at hcf
  have hcf : lm10s.file "OfferSky" = some cf := hcf
  rw [lm10file] at hcf
  cases hcf
  cases hobj.symm.trans hfO
  cases hok.symm.trans hkO
  have hok0 : kO.instanceTypes = #[] := Array.eq_empty_of_size_eq_zero hszO
  rw [hszO, lm10laid] at hlay
  cases hlay
  obtain ⟨b, hbm, hsame⟩ := hmeth 1 lm10M (lm10second methods hms)
  obtain ⟨hn, -, hsig, hfl, x, yy, hfc, hbc, -, hmxl, hcc, -⟩ := Lambda.sameMethod_spec hsame
  have fc := lm10code
  have ff := lm10flags
  simp only [Prod.mk.injEq] at ff
  simp only [hfc, Option.map_some, Option.some.injEq, Prod.mk.injEq] at fc
  have hkn : k.name = "OfferSky$$Lambda" := by rw [hrec.1, hname]; rfl
  have hO1 : U.vm.findClass "OfferSky$Offer" = some ((gD g).1 5) := (hKV.1.1 5 _ rfl).2.1
  obtain ⟨kOf, hkOf, -⟩ := (hKV.1.1 5 _ rfl).2.2
  have hmk : U.vm.method? ⟨gL g 10, 1⟩ = some b := by simp [Vm.method?, hkk, hbm]
  refine ⟨⟨⟨b, yy, hmk, hbc, ?_, State.plainMethod.of_name (fun k' hk' => by cases hkk.symm.trans hk'; rw [hkn]; decide), by rw [hmxl]; exact fc.2, by rw [hcc]; exact ByteArray.ext fc.1, by rw [hsig]; exact ff.2.2, by rw [hfl]; exact ff.1⟩, k, hkk, by rw [hty.1, hok0, lm10types]; rfl, hrec.2.1⟩, ?_, ⟨(gD g).1 5, kOf, ⟨k, hkk, hres 19 _ (Lambda.resolvedOf_class lm10eO.1 lm10eO.2.2 lm10eO.2.1 hO1)⟩, hO1, hkOf⟩, ?_⟩
  · simp [Method.locks, Method.isSynchronized, hfl, ff.1, hasFlag, Acc.synchronized]
  · obtain ⟨g0, hg0, hp0⟩ := Option.map_eq_some_iff.mp lm10eF0.2.2.2
    simp only [Prod.mk.injEq] at hp0
    exact ⟨g0, ⟨k, 0, k, hkk, hres 15 _ (Lambda.resolvedOf_field lm10eF0.1 lm10eF0.2.1 lm10eF0.2.2.1), hkk, hfields 0 _ hg0⟩, hp0.1, hp0.2⟩
  · intro e
    exact FwS.of hkk hfile (by rw [hpool.2.1]; exact lm10eM.1) (by rw [hpool.2.1]; exact lm10eM.2.2) ⟨k, hkk, hres 25 _ (Lambda.resolvedOf_method lm10eM.1 lm10eM.2.1 ht htk lm10eM.2.2 hg)⟩ ⟨k, hkk, hres 21 _ (Lambda.resolvedOf_class lm10eC.1 lm10eC.2.2 lm10eC.2.1 ht)⟩ ht htk hg (by decide) (hw _ q1197) (hw _ q1196) (hw _ q99) (sig := ⟨[.object "OfferSky$Offer", .object "OfferSky$Offer"], some .boolean⟩) (by decide +kernel) rfl
def lm11s : Lambda.Shape := ({ iface := "OfferSky$Choice", name := "holds", sam := ({ parameters := [(Jvm.ClassFile.FieldType.object "java/lang/Object")], returnType := (Option.some Jvm.ClassFile.FieldType.boolean) } : Jvm.ClassFile.MethodDescriptor), captured := [(Jvm.ClassFile.FieldType.object "OfferSky$State"), (Jvm.ClassFile.FieldType.object "OfferSky$Bag"), Jvm.ClassFile.FieldType.int], kind := 5, implClass := "OfferSky$State", implName := "lambda$toldBy$10", implDesc := ({ parameters := [(Jvm.ClassFile.FieldType.object "OfferSky$Bag"), Jvm.ClassFile.FieldType.int, (Jvm.ClassFile.FieldType.object "OfferSky$Offer")], returnType := (Option.some Jvm.ClassFile.FieldType.boolean) } : Jvm.ClassFile.MethodDescriptor), implItf := false, inst := ({ parameters := [(Jvm.ClassFile.FieldType.object "OfferSky$Offer")], returnType := (Option.some Jvm.ClassFile.FieldType.boolean) } : Jvm.ClassFile.MethodDescriptor) } : Jvm.Lambda.Shape)
theorem lm11q : ls_all[11]? = some (⟨"OfferSky$State", "toldBy", "(I)I"⟩, 9, 165, lm11s) := rfl
def lm11f : ByteArray := ⟨#[42, 180, 0, 19, 42, 180, 0, 21, 42, 180, 0, 23, 43, 192, 0, 27, 182, 0, 33, 172]⟩
theorem lm11d0 : decode lm11f 0 = .ok (.aload_n 0, 1) := by decide +kernel
theorem lm11d1 : decode lm11f 1 = .ok (.getfield 19, 3) := by decide +kernel
theorem lm11d4 : decode lm11f 4 = .ok (.aload_n 0, 1) := by decide +kernel
theorem lm11d5 : decode lm11f 5 = .ok (.getfield 21, 3) := by decide +kernel
theorem lm11d8 : decode lm11f 8 = .ok (.aload_n 0, 1) := by decide +kernel
theorem lm11d9 : decode lm11f 9 = .ok (.getfield 23, 3) := by decide +kernel
theorem lm11d12 : decode lm11f 12 = .ok (.aload_n 1, 1) := by decide +kernel
theorem lm11d13 : decode lm11f 13 = .ok (.checkcast 27, 3) := by decide +kernel
theorem lm11d16 : decode lm11f 16 = .ok (.invokevirtual 33, 3) := by decide +kernel
theorem lm11d19 : decode lm11f 19 = .ok (.ireturn, 1) := by decide +kernel
def lm11D : ClassFile := (lm11s.file "OfferSky$State").getD { minorVersion := 0, majorVersion := 0, constantPool := #[], accessFlags := 0, thisClass := 0, superClass := 0, interfaces := #[], fields := #[], methods := #[], attributes := #[] }
def lm11M : Method := ((layoutMethods lm11D).bind (·[1]?)).getD default
def lm11L : Array Field × Array FieldType × Array FieldType := (layoutFields lm11D 0).getD (#[], #[], #[])
theorem lm11file : lm11s.file "OfferSky$State" = some lm11D := by
  have h : (lm11s.file "OfferSky$State").isSome = true := by decide +kernel
  obtain ⟨x, hx⟩ := Option.isSome_iff_exists.mp h
  simp [lm11D, hx]
theorem lm11second : ∀ ms, layoutMethods lm11D = some ms → ms[1]? = some lm11M := by
  intro ms hms
  have h : ((layoutMethods lm11D).bind (·[1]?)).isSome = true := by decide +kernel
  obtain ⟨x, hx⟩ := Option.isSome_iff_exists.mp h
  have hf : lm11M = x := by simp [lm11M, hx]
  rw [hms] at hx
  rw [hf]
  exact hx
theorem lm11laid : layoutFields lm11D 0 = some lm11L := by
  have h : (layoutFields lm11D 0).isSome = true := by decide +kernel
  obtain ⟨x, hx⟩ := Option.isSome_iff_exists.mp h
  simp [lm11L, hx]
theorem lm11code : (lm11M.code.map fun c => (c.code.data, c.maxLocals)) = some (lm11f.data, 2) := by decide +kernel
theorem lm11flags : (lm11M.accessFlags, lm11M.name, lm11M.sig.returnType) = (0x0001, "holds", (some .boolean : Option FieldType)) := by decide +kernel
theorem lm11eM : lm11D.constantPool[33]? = some (.methodref 29 32) ∧ lm11D.constantPool.className? 29 = some "OfferSky$State" ∧ lm11D.constantPool.nameAndType? 32 = some ("lambda$toldBy$10", "(LOfferSky$Bag;ILOfferSky$Offer;)Z") := by decide +kernel
theorem lm11eC : lm11D.constantPool[29]? = some (.class_ 28) ∧ lm11D.constantPool.string? 28 = some "OfferSky$State" ∧ 29 ≠ lm11D.thisClass := by decide +kernel
theorem lm11eO : lm11D.constantPool[27]? = some (.class_ 26) ∧ lm11D.constantPool.string? 26 = some "OfferSky$Offer" ∧ 27 ≠ lm11D.thisClass := by decide +kernel
theorem lm11eF0 : lm11D.constantPool[19]? = some (.fieldref 2 18) ∧ lm11D.constantPool.nameAndType? 18 = some ("arg$1", "LOfferSky$State;") ∧ lm11L.1.findIdx? (·.name == "arg$1") = some 0 ∧ (lm11L.1[0]?).map (fun f => (f.isStatic, f.slot)) = some (false, 0) := by decide +kernel
theorem lm11eF1 : lm11D.constantPool[21]? = some (.fieldref 2 20) ∧ lm11D.constantPool.nameAndType? 20 = some ("arg$2", "LOfferSky$Bag;") ∧ lm11L.1.findIdx? (·.name == "arg$2") = some 1 ∧ (lm11L.1[1]?).map (fun f => (f.isStatic, f.slot)) = some (false, 1) := by decide +kernel
theorem lm11eF2 : lm11D.constantPool[23]? = some (.fieldref 2 22) ∧ lm11D.constantPool.nameAndType? 22 = some ("arg$3", "I") ∧ lm11L.1.findIdx? (·.name == "arg$3") = some 2 ∧ (lm11L.1[2]?).map (fun f => (f.isStatic, f.slot)) = some (false, 2) := by decide +kernel
theorem lm11types : lm11L.2.1 = #[.object "OfferSky$State", .object "OfferSky$Bag", .int] := by decide +kernel
set_option maxHeartbeats 4000000 in
theorem lm11 {g : GT} {U : State} {A : Array Value} (hKV : KV g U) (hw : ∀ w ∈ lw_all, w.before A U = true) : (FwB U (gL g 11) lm11f 2 ∧ (∃ kC, U.vm.classes[gL g 11]? = some kC ∧ kC.instanceTypes = #[.object "OfferSky$State", .object "OfferSky$Bag", .int] ∧ kC.kind = .ordinary)) ∧ (FwF U (gL g 11) 19 0 ∧ FwF U (gL g 11) 21 1 ∧ FwF U (gL g 11) 23 2) ∧ FwC U (gL g 11) 27 "OfferSky$Offer" ∧ (FwV U (gL g 11) 33 yX2_lambda_toldBy_10 3) := by
  have hs : U.lambdaAt? ⟨"OfferSky$State", "toldBy", "(I)I"⟩ 9 165 lm11s = some (gL g 11, none) := hKV.2.2.2.1 11 _ lm11q
  obtain ⟨m, kc, cf0, i0, p0, l, hm, hk, hcf0, hsh, hin, hfind, hmade, hcall, hl⟩ := State.lambdaAt?_spec hs
  obtain ⟨kc', hkc', hname⟩ := className_of_methodNamed hm
  cases hk.symm.trans hkc'
  obtain ⟨cO, kO, hfO, hkO, -, -, -, hszO⟩ := Cond.instantiable_spec (hw _ q2342)
  obtain ⟨dk', k, ok, tk, file, cf, object, iface, toy, lay, methods, target, found, hd', hkk, hfile, hcf, hobj, -, hok, hlay, hms, ht, htk, hg, -, hrec, -, -, -, hitf, hpool, hmeth, hfields, hty, hres, -⟩ := Lambda.isMade_spec hmade
  cases hk.symm.trans hd'
  rw [hname] at hcf
  have hcf : lm11s.file "OfferSky$State" = some cf := hcf
  rw [lm11file] at hcf
  cases hcf
  cases hobj.symm.trans hfO
  cases hok.symm.trans hkO
  have hok0 : kO.instanceTypes = #[] := Array.eq_empty_of_size_eq_zero hszO
  rw [hszO, lm11laid] at hlay
  cases hlay
  obtain ⟨b, hbm, hsame⟩ := hmeth 1 lm11M (lm11second methods hms)
  obtain ⟨hn, -, hsig, hfl, x, yy, hfc, hbc, -, hmxl, hcc, -⟩ := Lambda.sameMethod_spec hsame
  have fc := lm11code
  have ff := lm11flags
  simp only [Prod.mk.injEq] at ff
  simp only [hfc, Option.map_some, Option.some.injEq, Prod.mk.injEq] at fc
  have hkn : k.name = "OfferSky$State$$Lambda" := by rw [hrec.1, hname]; rfl
  have hO1 : U.vm.findClass "OfferSky$Offer" = some ((gD g).1 5) := (hKV.1.1 5 _ rfl).2.1
  obtain ⟨kOf, hkOf, -⟩ := (hKV.1.1 5 _ rfl).2.2
  have hmk : U.vm.method? ⟨gL g 11, 1⟩ = some b := by simp [Vm.method?, hkk, hbm]
  refine ⟨⟨⟨b, yy, hmk, hbc, ?_, State.plainMethod.of_name (fun k' hk' => by cases hkk.symm.trans hk'; rw [hkn]; decide), by rw [hmxl]; exact fc.2, by rw [hcc]; exact ByteArray.ext fc.1, by rw [hsig]; exact ff.2.2, by rw [hfl]; exact ff.1⟩, k, hkk, by rw [hty.1, hok0, lm11types]; rfl, hrec.2.1⟩, ⟨?_, ?_, ?_⟩, ⟨(gD g).1 5, kOf, ⟨k, hkk, hres 27 _ (Lambda.resolvedOf_class lm11eO.1 lm11eO.2.2 lm11eO.2.1 hO1)⟩, hO1, hkOf⟩, ?_⟩
  · simp [Method.locks, Method.isSynchronized, hfl, ff.1, hasFlag, Acc.synchronized]
  · obtain ⟨g0, hg0, hp0⟩ := Option.map_eq_some_iff.mp lm11eF0.2.2.2
    simp only [Prod.mk.injEq] at hp0
    exact ⟨g0, ⟨k, 0, k, hkk, hres 19 _ (Lambda.resolvedOf_field lm11eF0.1 lm11eF0.2.1 lm11eF0.2.2.1), hkk, hfields 0 _ hg0⟩, hp0.1, hp0.2⟩
  · obtain ⟨g0, hg0, hp0⟩ := Option.map_eq_some_iff.mp lm11eF1.2.2.2
    simp only [Prod.mk.injEq] at hp0
    exact ⟨g0, ⟨k, 1, k, hkk, hres 21 _ (Lambda.resolvedOf_field lm11eF1.1 lm11eF1.2.1 lm11eF1.2.2.1), hkk, hfields 1 _ hg0⟩, hp0.1, hp0.2⟩
  · obtain ⟨g0, hg0, hp0⟩ := Option.map_eq_some_iff.mp lm11eF2.2.2.2
    simp only [Prod.mk.injEq] at hp0
    exact ⟨g0, ⟨k, 2, k, hkk, hres 23 _ (Lambda.resolvedOf_field lm11eF2.1 lm11eF2.2.1 lm11eF2.2.2.1), hkk, hfields 2 _ hg0⟩, hp0.1, hp0.2⟩
  · exact FwV.of hkk hfile (by rw [hpool.2.1]; exact lm11eM.1) ⟨k, hkk, hres 33 _ (Lambda.resolvedOf_method lm11eM.1 lm11eM.2.1 ht htk lm11eM.2.2 hg)⟩ ⟨k, hkk, hres 29 _ (Lambda.resolvedOf_class lm11eC.1 lm11eC.2.2 lm11eC.2.1 ht)⟩ ht htk hitf hg (by decide) (hw _ q1213) (hw _ q1212) (hw _ qs34) (sig := ⟨[.object "OfferSky$Bag", .int, .object "OfferSky$Offer"], some .boolean⟩) (by decide +kernel) rfl
def lm12s : Lambda.Shape := ({ iface := "OfferSky$Choice", name := "holds", sam := ({ parameters := [(Jvm.ClassFile.FieldType.object "java/lang/Object")], returnType := (Option.some Jvm.ClassFile.FieldType.boolean) } : Jvm.ClassFile.MethodDescriptor), captured := [(Jvm.ClassFile.FieldType.object "OfferSky$State"), (Jvm.ClassFile.FieldType.object "OfferSky$Bag"), Jvm.ClassFile.FieldType.int], kind := 5, implClass := "OfferSky$State", implName := "lambda$weakly$12", implDesc := ({ parameters := [(Jvm.ClassFile.FieldType.object "OfferSky$Bag"), Jvm.ClassFile.FieldType.int, (Jvm.ClassFile.FieldType.object "OfferSky$Offer")], returnType := (Option.some Jvm.ClassFile.FieldType.boolean) } : Jvm.ClassFile.MethodDescriptor), implItf := false, inst := ({ parameters := [(Jvm.ClassFile.FieldType.object "OfferSky$Offer")], returnType := (Option.some Jvm.ClassFile.FieldType.boolean) } : Jvm.ClassFile.MethodDescriptor) } : Jvm.Lambda.Shape)
theorem lm12q : ls_all[12]? = some (⟨"OfferSky$State", "weakly", "(I)I"⟩, 9, 175, lm12s) := rfl
def lm12f : ByteArray := ⟨#[42, 180, 0, 19, 42, 180, 0, 21, 42, 180, 0, 23, 43, 192, 0, 27, 182, 0, 33, 172]⟩
theorem lm12d0 : decode lm12f 0 = .ok (.aload_n 0, 1) := by decide +kernel
theorem lm12d1 : decode lm12f 1 = .ok (.getfield 19, 3) := by decide +kernel
theorem lm12d4 : decode lm12f 4 = .ok (.aload_n 0, 1) := by decide +kernel
theorem lm12d5 : decode lm12f 5 = .ok (.getfield 21, 3) := by decide +kernel
theorem lm12d8 : decode lm12f 8 = .ok (.aload_n 0, 1) := by decide +kernel
theorem lm12d9 : decode lm12f 9 = .ok (.getfield 23, 3) := by decide +kernel
theorem lm12d12 : decode lm12f 12 = .ok (.aload_n 1, 1) := by decide +kernel
theorem lm12d13 : decode lm12f 13 = .ok (.checkcast 27, 3) := by decide +kernel
theorem lm12d16 : decode lm12f 16 = .ok (.invokevirtual 33, 3) := by decide +kernel
theorem lm12d19 : decode lm12f 19 = .ok (.ireturn, 1) := by decide +kernel
def lm12D : ClassFile := (lm12s.file "OfferSky$State").getD { minorVersion := 0, majorVersion := 0, constantPool := #[], accessFlags := 0, thisClass := 0, superClass := 0, interfaces := #[], fields := #[], methods := #[], attributes := #[] }
def lm12M : Method := ((layoutMethods lm12D).bind (·[1]?)).getD default
def lm12L : Array Field × Array FieldType × Array FieldType := (layoutFields lm12D 0).getD (#[], #[], #[])
theorem lm12file : lm12s.file "OfferSky$State" = some lm12D := by
  have h : (lm12s.file "OfferSky$State").isSome = true := by decide +kernel
  obtain ⟨x, hx⟩ := Option.isSome_iff_exists.mp h
  simp [lm12D, hx]
theorem lm12second : ∀ ms, layoutMethods lm12D = some ms → ms[1]? = some lm12M := by
  intro ms hms
  have h : ((layoutMethods lm12D).bind (·[1]?)).isSome = true := by decide +kernel
  obtain ⟨x, hx⟩ := Option.isSome_iff_exists.mp h
  have hf : lm12M = x := by simp [lm12M, hx]
  rw [hms] at hx
  rw [hf]
  exact hx
theorem lm12laid : layoutFields lm12D 0 = some lm12L := by
  have h : (layoutFields lm12D 0).isSome = true := by decide +kernel
  obtain ⟨x, hx⟩ := Option.isSome_iff_exists.mp h
  simp [lm12L, hx]
theorem lm12code : (lm12M.code.map fun c => (c.code.data, c.maxLocals)) = some (lm12f.data, 2) := by decide +kernel
theorem lm12flags : (lm12M.accessFlags, lm12M.name, lm12M.sig.returnType) = (0x0001, "holds", (some .boolean : Option FieldType)) := by decide +kernel
theorem lm12eM : lm12D.constantPool[33]? = some (.methodref 29 32) ∧ lm12D.constantPool.className? 29 = some "OfferSky$State" ∧ lm12D.constantPool.nameAndType? 32 = some ("lambda$weakly$12", "(LOfferSky$Bag;ILOfferSky$Offer;)Z") := by decide +kernel
theorem lm12eC : lm12D.constantPool[29]? = some (.class_ 28) ∧ lm12D.constantPool.string? 28 = some "OfferSky$State" ∧ 29 ≠ lm12D.thisClass := by decide +kernel
theorem lm12eO : lm12D.constantPool[27]? = some (.class_ 26) ∧ lm12D.constantPool.string? 26 = some "OfferSky$Offer" ∧ 27 ≠ lm12D.thisClass := by decide +kernel
theorem lm12eF0 : lm12D.constantPool[19]? = some (.fieldref 2 18) ∧ lm12D.constantPool.nameAndType? 18 = some ("arg$1", "LOfferSky$State;") ∧ lm12L.1.findIdx? (·.name == "arg$1") = some 0 ∧ (lm12L.1[0]?).map (fun f => (f.isStatic, f.slot)) = some (false, 0) := by decide +kernel
theorem lm12eF1 : lm12D.constantPool[21]? = some (.fieldref 2 20) ∧ lm12D.constantPool.nameAndType? 20 = some ("arg$2", "LOfferSky$Bag;") ∧ lm12L.1.findIdx? (·.name == "arg$2") = some 1 ∧ (lm12L.1[1]?).map (fun f => (f.isStatic, f.slot)) = some (false, 1) := by decide +kernel
theorem lm12eF2 : lm12D.constantPool[23]? = some (.fieldref 2 22) ∧ lm12D.constantPool.nameAndType? 22 = some ("arg$3", "I") ∧ lm12L.1.findIdx? (·.name == "arg$3") = some 2 ∧ (lm12L.1[2]?).map (fun f => (f.isStatic, f.slot)) = some (false, 2) := by decide +kernel
theorem lm12types : lm12L.2.1 = #[.object "OfferSky$State", .object "OfferSky$Bag", .int] := by decide +kernel
set_option maxHeartbeats 4000000 in
theorem lm12 {g : GT} {U : State} {A : Array Value} (hKV : KV g U) (hw : ∀ w ∈ lw_all, w.before A U = true) : (FwB U (gL g 12) lm12f 2 ∧ (∃ kC, U.vm.classes[gL g 12]? = some kC ∧ kC.instanceTypes = #[.object "OfferSky$State", .object "OfferSky$Bag", .int] ∧ kC.kind = .ordinary)) ∧ (FwF U (gL g 12) 19 0 ∧ FwF U (gL g 12) 21 1 ∧ FwF U (gL g 12) 23 2) ∧ FwC U (gL g 12) 27 "OfferSky$Offer" ∧ (FwV U (gL g 12) 33 yX2_lambda_weakly_12 3) := by
  have hs : U.lambdaAt? ⟨"OfferSky$State", "weakly", "(I)I"⟩ 9 175 lm12s = some (gL g 12, none) := hKV.2.2.2.1 12 _ lm12q
  obtain ⟨m, kc, cf0, i0, p0, l, hm, hk, hcf0, hsh, hin, hfind, hmade, hcall, hl⟩ := State.lambdaAt?_spec hs
  obtain ⟨kc', hkc', hname⟩ := className_of_methodNamed hm
  cases hk.symm.trans hkc'
  obtain ⟨cO, kO, hfO, hkO, -, -, -, hszO⟩ := Cond.instantiable_spec (hw _ q2342)
  obtain ⟨dk', k, ok, tk, file, cf, object, iface, toy, lay, methods, target, found, hd', hkk, hfile, hcf, hobj, -, hok, hlay, hms, ht, htk, hg, -, hrec, -, -, -, hitf, hpool, hmeth, hfields, hty, hres, -⟩ := Lambda.isMade_spec hmade
  cases hk.symm.trans hd'
  rw [hname] at hcf
  have hcf : lm12s.file "OfferSky$State" = some cf := hcf
  rw [lm12file] at hcf
  cases hcf
  cases hobj.symm.trans hfO
  cases hok.symm.trans hkO
  have hok0 : kO.instanceTypes = #[] := Array.eq_empty_of_size_eq_zero hszO
  rw [hszO, lm12laid] at hlay
  cases hlay
  obtain ⟨b, hbm, hsame⟩ := hmeth 1 lm12M (lm12second methods hms)
  obtain ⟨hn, -, hsig, hfl, x, yy, hfc, hbc, -, hmxl, hcc, -⟩ := Lambda.sameMethod_spec hsame
  have fc := lm12code
  have ff := lm12flags
  simp only [Prod.mk.injEq] at ff
  simp only [hfc, Option.map_some, Option.some.injEq, Prod.mk.injEq] at fc
  have hkn : k.name = "OfferSky$State$$Lambda" := by rw [hrec.1, hname]; rfl
  have hO1 : U.vm.findClass "OfferSky$Offer" = some ((gD g).1 5) := (hKV.1.1 5 _ rfl).2.1
  obtain ⟨kOf, hkOf, -⟩ := (hKV.1.1 5 _ rfl).2.2
  have hmk : U.vm.method? ⟨gL g 12, 1⟩ = some b := by simp [Vm.method?, hkk, hbm]
  refine ⟨⟨⟨b, yy, hmk, hbc, ?_, State.plainMethod.of_name (fun k' hk' => by cases hkk.symm.trans hk'; rw [hkn]; decide), by rw [hmxl]; exact fc.2, by rw [hcc]; exact ByteArray.ext fc.1, by rw [hsig]; exact ff.2.2, by rw [hfl]; exact ff.1⟩, k, hkk, by rw [hty.1, hok0, lm12types]; rfl, hrec.2.1⟩, ⟨?_, ?_, ?_⟩, ⟨(gD g).1 5, kOf, ⟨k, hkk, hres 27 _ (Lambda.resolvedOf_class lm12eO.1 lm12eO.2.2 lm12eO.2.1 hO1)⟩, hO1, hkOf⟩, ?_⟩
  · simp [Method.locks, Method.isSynchronized, hfl, ff.1, hasFlag, Acc.synchronized]
  · obtain ⟨g0, hg0, hp0⟩ := Option.map_eq_some_iff.mp lm12eF0.2.2.2
    simp only [Prod.mk.injEq] at hp0
    exact ⟨g0, ⟨k, 0, k, hkk, hres 19 _ (Lambda.resolvedOf_field lm12eF0.1 lm12eF0.2.1 lm12eF0.2.2.1), hkk, hfields 0 _ hg0⟩, hp0.1, hp0.2⟩
  · obtain ⟨g0, hg0, hp0⟩ := Option.map_eq_some_iff.mp lm12eF1.2.2.2
    simp only [Prod.mk.injEq] at hp0
    exact ⟨g0, ⟨k, 1, k, hkk, hres 21 _ (Lambda.resolvedOf_field lm12eF1.1 lm12eF1.2.1 lm12eF1.2.2.1), hkk, hfields 1 _ hg0⟩, hp0.1, hp0.2⟩
  · obtain ⟨g0, hg0, hp0⟩ := Option.map_eq_some_iff.mp lm12eF2.2.2.2
    simp only [Prod.mk.injEq] at hp0
    exact ⟨g0, ⟨k, 2, k, hkk, hres 23 _ (Lambda.resolvedOf_field lm12eF2.1 lm12eF2.2.1 lm12eF2.2.2.1), hkk, hfields 2 _ hg0⟩, hp0.1, hp0.2⟩
  · exact FwV.of hkk hfile (by rw [hpool.2.1]; exact lm12eM.1) ⟨k, hkk, hres 33 _ (Lambda.resolvedOf_method lm12eM.1 lm12eM.2.1 ht htk lm12eM.2.2 hg)⟩ ⟨k, hkk, hres 29 _ (Lambda.resolvedOf_class lm12eC.1 lm12eC.2.2 lm12eC.2.1 ht)⟩ ht htk hitf hg (by decide) (hw _ q1224) (hw _ q1223) (hw _ qs36) (sig := ⟨[.object "OfferSky$Bag", .int, .object "OfferSky$Offer"], some .boolean⟩) (by decide +kernel) rfl
def lm13s : Lambda.Shape := ({ iface := "OfferSky$Choice", name := "holds", sam := ({ parameters := [(Jvm.ClassFile.FieldType.object "java/lang/Object")], returnType := (Option.some Jvm.ClassFile.FieldType.boolean) } : Jvm.ClassFile.MethodDescriptor), captured := [(Jvm.ClassFile.FieldType.object "OfferSky$State"), (Jvm.ClassFile.FieldType.object "OfferSky$Offer"), Jvm.ClassFile.FieldType.int], kind := 5, implClass := "OfferSky$State", implName := "lambda$weakly$11", implDesc := ({ parameters := [(Jvm.ClassFile.FieldType.object "OfferSky$Offer"), Jvm.ClassFile.FieldType.int, (Jvm.ClassFile.FieldType.object "OfferSky$Offer")], returnType := (Option.some Jvm.ClassFile.FieldType.boolean) } : Jvm.ClassFile.MethodDescriptor), implItf := false, inst := ({ parameters := [(Jvm.ClassFile.FieldType.object "OfferSky$Offer")], returnType := (Option.some Jvm.ClassFile.FieldType.boolean) } : Jvm.ClassFile.MethodDescriptor) } : Jvm.Lambda.Shape)
theorem lm13q : ls_all[13]? = some (⟨"OfferSky$State", "lambda$weakly$12", "(LOfferSky$Bag;ILOfferSky$Offer;)Z"⟩, 4, 244, lm13s) := rfl
def lm13f : ByteArray := ⟨#[42, 180, 0, 19, 42, 180, 0, 21, 42, 180, 0, 23, 43, 192, 0, 27, 182, 0, 33, 172]⟩
theorem lm13d0 : decode lm13f 0 = .ok (.aload_n 0, 1) := by decide +kernel
theorem lm13d1 : decode lm13f 1 = .ok (.getfield 19, 3) := by decide +kernel
theorem lm13d4 : decode lm13f 4 = .ok (.aload_n 0, 1) := by decide +kernel
theorem lm13d5 : decode lm13f 5 = .ok (.getfield 21, 3) := by decide +kernel
theorem lm13d8 : decode lm13f 8 = .ok (.aload_n 0, 1) := by decide +kernel
theorem lm13d9 : decode lm13f 9 = .ok (.getfield 23, 3) := by decide +kernel
theorem lm13d12 : decode lm13f 12 = .ok (.aload_n 1, 1) := by decide +kernel
theorem lm13d13 : decode lm13f 13 = .ok (.checkcast 27, 3) := by decide +kernel
theorem lm13d16 : decode lm13f 16 = .ok (.invokevirtual 33, 3) := by decide +kernel
theorem lm13d19 : decode lm13f 19 = .ok (.ireturn, 1) := by decide +kernel
def lm13D : ClassFile := (lm13s.file "OfferSky$State").getD { minorVersion := 0, majorVersion := 0, constantPool := #[], accessFlags := 0, thisClass := 0, superClass := 0, interfaces := #[], fields := #[], methods := #[], attributes := #[] }
def lm13M : Method := ((layoutMethods lm13D).bind (·[1]?)).getD default
def lm13L : Array Field × Array FieldType × Array FieldType := (layoutFields lm13D 0).getD (#[], #[], #[])
theorem lm13file : lm13s.file "OfferSky$State" = some lm13D := by
  have h : (lm13s.file "OfferSky$State").isSome = true := by decide +kernel
  obtain ⟨x, hx⟩ := Option.isSome_iff_exists.mp h
  simp [lm13D, hx]
theorem lm13second : ∀ ms, layoutMethods lm13D = some ms → ms[1]? = some lm13M := by
  intro ms hms
  have h : ((layoutMethods lm13D).bind (·[1]?)).isSome = true := by decide +kernel
  obtain ⟨x, hx⟩ := Option.isSome_iff_exists.mp h
  have hf : lm13M = x := by simp [lm13M, hx]
  rw [hms] at hx
  rw [hf]
  exact hx
theorem lm13laid : layoutFields lm13D 0 = some lm13L := by
  have h : (layoutFields lm13D 0).isSome = true := by decide +kernel
  obtain ⟨x, hx⟩ := Option.isSome_iff_exists.mp h
  simp [lm13L, hx]
theorem lm13code : (lm13M.code.map fun c => (c.code.data, c.maxLocals)) = some (lm13f.data, 2) := by decide +kernel
theorem lm13flags : (lm13M.accessFlags, lm13M.name, lm13M.sig.returnType) = (0x0001, "holds", (some .boolean : Option FieldType)) := by decide +kernel
theorem lm13eM : lm13D.constantPool[33]? = some (.methodref 29 32) ∧ lm13D.constantPool.className? 29 = some "OfferSky$State" ∧ lm13D.constantPool.nameAndType? 32 = some ("lambda$weakly$11", "(LOfferSky$Offer;ILOfferSky$Offer;)Z") := by decide +kernel
theorem lm13eC : lm13D.constantPool[29]? = some (.class_ 28) ∧ lm13D.constantPool.string? 28 = some "OfferSky$State" ∧ 29 ≠ lm13D.thisClass := by decide +kernel
theorem lm13eO : lm13D.constantPool[27]? = some (.class_ 26) ∧ lm13D.constantPool.string? 26 = some "OfferSky$Offer" ∧ 27 ≠ lm13D.thisClass := by decide +kernel
theorem lm13eF0 : lm13D.constantPool[19]? = some (.fieldref 2 18) ∧ lm13D.constantPool.nameAndType? 18 = some ("arg$1", "LOfferSky$State;") ∧ lm13L.1.findIdx? (·.name == "arg$1") = some 0 ∧ (lm13L.1[0]?).map (fun f => (f.isStatic, f.slot)) = some (false, 0) := by decide +kernel
theorem lm13eF1 : lm13D.constantPool[21]? = some (.fieldref 2 20) ∧ lm13D.constantPool.nameAndType? 20 = some ("arg$2", "LOfferSky$Offer;") ∧ lm13L.1.findIdx? (·.name == "arg$2") = some 1 ∧ (lm13L.1[1]?).map (fun f => (f.isStatic, f.slot)) = some (false, 1) := by decide +kernel
theorem lm13eF2 : lm13D.constantPool[23]? = some (.fieldref 2 22) ∧ lm13D.constantPool.nameAndType? 22 = some ("arg$3", "I") ∧ lm13L.1.findIdx? (·.name == "arg$3") = some 2 ∧ (lm13L.1[2]?).map (fun f => (f.isStatic, f.slot)) = some (false, 2) := by decide +kernel
theorem lm13types : lm13L.2.1 = #[.object "OfferSky$State", .object "OfferSky$Offer", .int] := by decide +kernel
set_option maxHeartbeats 4000000 in
theorem lm13 {g : GT} {U : State} {A : Array Value} (hKV : KV g U) (hw : ∀ w ∈ lw_all, w.before A U = true) : (FwB U (gL g 13) lm13f 2 ∧ (∃ kC, U.vm.classes[gL g 13]? = some kC ∧ kC.instanceTypes = #[.object "OfferSky$State", .object "OfferSky$Offer", .int] ∧ kC.kind = .ordinary)) ∧ (FwF U (gL g 13) 19 0 ∧ FwF U (gL g 13) 21 1 ∧ FwF U (gL g 13) 23 2) ∧ FwC U (gL g 13) 27 "OfferSky$Offer" ∧ (FwV U (gL g 13) 33 yX2_lambda_weakly_11 3) := by
  have hs : U.lambdaAt? ⟨"OfferSky$State", "lambda$weakly$12", "(LOfferSky$Bag;ILOfferSky$Offer;)Z"⟩ 4 244 lm13s = some (gL g 13, none) := hKV.2.2.2.1 13 _ lm13q
  obtain ⟨m, kc, cf0, i0, p0, l, hm, hk, hcf0, hsh, hin, hfind, hmade, hcall, hl⟩ := State.lambdaAt?_spec hs
  obtain ⟨kc', hkc', hname⟩ := className_of_methodNamed hm
  cases hk.symm.trans hkc'
  obtain ⟨cO, kO, hfO, hkO, -, -, -, hszO⟩ := Cond.instantiable_spec (hw _ q2342)
  obtain ⟨dk', k, ok, tk, file, cf, object, iface, toy, lay, methods, target, found, hd', hkk, hfile, hcf, hobj, -, hok, hlay, hms, ht, htk, hg, -, hrec, -, -, -, hitf, hpool, hmeth, hfields, hty, hres, -⟩ := Lambda.isMade_spec hmade
  cases hk.symm.trans hd'
  rw [hname] at hcf
  have hcf : lm13s.file "OfferSky$State" = some cf := hcf
  rw [lm13file] at hcf
  cases hcf
  cases hobj.symm.trans hfO
  cases hok.symm.trans hkO
  have hok0 : kO.instanceTypes = #[] := Array.eq_empty_of_size_eq_zero hszO
  rw [hszO, lm13laid] at hlay
  cases hlay
  obtain ⟨b, hbm, hsame⟩ := hmeth 1 lm13M (lm13second methods hms)
  obtain ⟨hn, -, hsig, hfl, x, yy, hfc, hbc, -, hmxl, hcc, -⟩ := Lambda.sameMethod_spec hsame
  have fc := lm13code
  have ff := lm13flags
  simp only [Prod.mk.injEq] at ff
  simp only [hfc, Option.map_some, Option.some.injEq, Prod.mk.injEq] at fc
  have hkn : k.name = "OfferSky$State$$Lambda" := by rw [hrec.1, hname]; rfl
  have hO1 : U.vm.findClass "OfferSky$Offer" = some ((gD g).1 5) := (hKV.1.1 5 _ rfl).2.1
  obtain ⟨kOf, hkOf, -⟩ := (hKV.1.1 5 _ rfl).2.2
  have hmk : U.vm.method? ⟨gL g 13, 1⟩ = some b := by simp [Vm.method?, hkk, hbm]
  refine ⟨⟨⟨b, yy, hmk, hbc, ?_, State.plainMethod.of_name (fun k' hk' => by cases hkk.symm.trans hk'; rw [hkn]; decide), by rw [hmxl]; exact fc.2, by rw [hcc]; exact ByteArray.ext fc.1, by rw [hsig]; exact ff.2.2, by rw [hfl]; exact ff.1⟩, k, hkk, by rw [hty.1, hok0, lm13types]; rfl, hrec.2.1⟩, ⟨?_, ?_, ?_⟩, ⟨(gD g).1 5, kOf, ⟨k, hkk, hres 27 _ (Lambda.resolvedOf_class lm13eO.1 lm13eO.2.2 lm13eO.2.1 hO1)⟩, hO1, hkOf⟩, ?_⟩
  · simp [Method.locks, Method.isSynchronized, hfl, ff.1, hasFlag, Acc.synchronized]
  · obtain ⟨g0, hg0, hp0⟩ := Option.map_eq_some_iff.mp lm13eF0.2.2.2
    simp only [Prod.mk.injEq] at hp0
    exact ⟨g0, ⟨k, 0, k, hkk, hres 19 _ (Lambda.resolvedOf_field lm13eF0.1 lm13eF0.2.1 lm13eF0.2.2.1), hkk, hfields 0 _ hg0⟩, hp0.1, hp0.2⟩
  · obtain ⟨g0, hg0, hp0⟩ := Option.map_eq_some_iff.mp lm13eF1.2.2.2
    simp only [Prod.mk.injEq] at hp0
    exact ⟨g0, ⟨k, 1, k, hkk, hres 21 _ (Lambda.resolvedOf_field lm13eF1.1 lm13eF1.2.1 lm13eF1.2.2.1), hkk, hfields 1 _ hg0⟩, hp0.1, hp0.2⟩
  · obtain ⟨g0, hg0, hp0⟩ := Option.map_eq_some_iff.mp lm13eF2.2.2.2
    simp only [Prod.mk.injEq] at hp0
    exact ⟨g0, ⟨k, 2, k, hkk, hres 23 _ (Lambda.resolvedOf_field lm13eF2.1 lm13eF2.2.1 lm13eF2.2.2.1), hkk, hfields 2 _ hg0⟩, hp0.1, hp0.2⟩
  · exact FwV.of hkk hfile (by rw [hpool.2.1]; exact lm13eM.1) ⟨k, hkk, hres 33 _ (Lambda.resolvedOf_method lm13eM.1 lm13eM.2.1 ht htk lm13eM.2.2 hg)⟩ ⟨k, hkk, hres 29 _ (Lambda.resolvedOf_class lm13eC.1 lm13eC.2.2 lm13eC.2.1 ht)⟩ ht htk hitf hg (by decide) (hw _ q1227) (hw _ q1226) (hw _ qs37) (sig := ⟨[.object "OfferSky$Offer", .int, .object "OfferSky$Offer"], some .boolean⟩) (by decide +kernel) rfl
def lm14s : Lambda.Shape := ({ iface := "OfferSky$Order", name := "isAhead", sam := ({ parameters := [(Jvm.ClassFile.FieldType.object "java/lang/Object"), (Jvm.ClassFile.FieldType.object "java/lang/Object")], returnType := (Option.some Jvm.ClassFile.FieldType.boolean) } : Jvm.ClassFile.MethodDescriptor), captured := [(Jvm.ClassFile.FieldType.object "OfferSky$State")], kind := 5, implClass := "OfferSky$State", implName := "lambda$scored$15", implDesc := ({ parameters := [(Jvm.ClassFile.FieldType.object "OfferSky$Offer"), (Jvm.ClassFile.FieldType.object "OfferSky$Offer")], returnType := (Option.some Jvm.ClassFile.FieldType.boolean) } : Jvm.ClassFile.MethodDescriptor), implItf := false, inst := ({ parameters := [(Jvm.ClassFile.FieldType.object "OfferSky$Offer"), (Jvm.ClassFile.FieldType.object "OfferSky$Offer")], returnType := (Option.some Jvm.ClassFile.FieldType.boolean) } : Jvm.ClassFile.MethodDescriptor) } : Jvm.Lambda.Shape)
theorem lm14q : ls_all[14]? = some (⟨"OfferSky$State", "scored", "()LOfferSky$Bag;"⟩, 5, 232, lm14s) := rfl
def lm14f : ByteArray := ⟨#[42, 180, 0, 15, 43, 192, 0, 19, 44, 192, 0, 19, 182, 0, 25, 172]⟩
theorem lm14d0 : decode lm14f 0 = .ok (.aload_n 0, 1) := by decide +kernel
theorem lm14d1 : decode lm14f 1 = .ok (.getfield 15, 3) := by decide +kernel
theorem lm14d4 : decode lm14f 4 = .ok (.aload_n 1, 1) := by decide +kernel
theorem lm14d5 : decode lm14f 5 = .ok (.checkcast 19, 3) := by decide +kernel
theorem lm14d8 : decode lm14f 8 = .ok (.aload_n 2, 1) := by decide +kernel
theorem lm14d9 : decode lm14f 9 = .ok (.checkcast 19, 3) := by decide +kernel
theorem lm14d12 : decode lm14f 12 = .ok (.invokevirtual 25, 3) := by decide +kernel
theorem lm14d15 : decode lm14f 15 = .ok (.ireturn, 1) := by decide +kernel
def lm14D : ClassFile := (lm14s.file "OfferSky$State").getD { minorVersion := 0, majorVersion := 0, constantPool := #[], accessFlags := 0, thisClass := 0, superClass := 0, interfaces := #[], fields := #[], methods := #[], attributes := #[] }
def lm14M : Method := ((layoutMethods lm14D).bind (·[1]?)).getD default
def lm14L : Array Field × Array FieldType × Array FieldType := (layoutFields lm14D 0).getD (#[], #[], #[])
theorem lm14file : lm14s.file "OfferSky$State" = some lm14D := by
  have h : (lm14s.file "OfferSky$State").isSome = true := by decide +kernel
  obtain ⟨x, hx⟩ := Option.isSome_iff_exists.mp h
  simp [lm14D, hx]
theorem lm14second : ∀ ms, layoutMethods lm14D = some ms → ms[1]? = some lm14M := by
  intro ms hms
  have h : ((layoutMethods lm14D).bind (·[1]?)).isSome = true := by decide +kernel
  obtain ⟨x, hx⟩ := Option.isSome_iff_exists.mp h
  have hf : lm14M = x := by simp [lm14M, hx]
  rw [hms] at hx
  rw [hf]
  exact hx
theorem lm14laid : layoutFields lm14D 0 = some lm14L := by
  have h : (layoutFields lm14D 0).isSome = true := by decide +kernel
  obtain ⟨x, hx⟩ := Option.isSome_iff_exists.mp h
  simp [lm14L, hx]
theorem lm14code : (lm14M.code.map fun c => (c.code.data, c.maxLocals)) = some (lm14f.data, 3) := by decide +kernel
theorem lm14flags : (lm14M.accessFlags, lm14M.name, lm14M.sig.returnType) = (0x0001, "isAhead", (some .boolean : Option FieldType)) := by decide +kernel
theorem lm14eM : lm14D.constantPool[25]? = some (.methodref 21 24) ∧ lm14D.constantPool.className? 21 = some "OfferSky$State" ∧ lm14D.constantPool.nameAndType? 24 = some ("lambda$scored$15", "(LOfferSky$Offer;LOfferSky$Offer;)Z") := by decide +kernel
theorem lm14eC : lm14D.constantPool[21]? = some (.class_ 20) ∧ lm14D.constantPool.string? 20 = some "OfferSky$State" ∧ 21 ≠ lm14D.thisClass := by decide +kernel
theorem lm14eO : lm14D.constantPool[19]? = some (.class_ 18) ∧ lm14D.constantPool.string? 18 = some "OfferSky$Offer" ∧ 19 ≠ lm14D.thisClass := by decide +kernel
theorem lm14eF0 : lm14D.constantPool[15]? = some (.fieldref 2 14) ∧ lm14D.constantPool.nameAndType? 14 = some ("arg$1", "LOfferSky$State;") ∧ lm14L.1.findIdx? (·.name == "arg$1") = some 0 ∧ (lm14L.1[0]?).map (fun f => (f.isStatic, f.slot)) = some (false, 0) := by decide +kernel
theorem lm14types : lm14L.2.1 = #[.object "OfferSky$State"] := by decide +kernel
set_option maxHeartbeats 4000000 in
theorem lm14 {g : GT} {U : State} {A : Array Value} (hKV : KV g U) (hw : ∀ w ∈ lw_all, w.before A U = true) : (FwB U (gL g 14) lm14f 3 ∧ (∃ kC, U.vm.classes[gL g 14]? = some kC ∧ kC.instanceTypes = #[.object "OfferSky$State"] ∧ kC.kind = .ordinary)) ∧ (FwF U (gL g 14) 15 0) ∧ FwC U (gL g 14) 19 "OfferSky$Offer" ∧ (FwV U (gL g 14) 25 yX2_lambda_scored_15 2) := by
  have hs : U.lambdaAt? ⟨"OfferSky$State", "scored", "()LOfferSky$Bag;"⟩ 5 232 lm14s = some (gL g 14, none) := hKV.2.2.2.1 14 _ lm14q
  obtain ⟨m, kc, cf0, i0, p0, l, hm, hk, hcf0, hsh, hin, hfind, hmade, hcall, hl⟩ := State.lambdaAt?_spec hs
  obtain ⟨kc', hkc', hname⟩ := className_of_methodNamed hm
  cases hk.symm.trans hkc'
  obtain ⟨cO, kO, hfO, hkO, -, -, -, hszO⟩ := Cond.instantiable_spec (hw _ q2342)
  obtain ⟨dk', k, ok, tk, file, cf, object, iface, toy, lay, methods, target, found, hd', hkk, hfile, hcf, hobj, -, hok, hlay, hms, ht, htk, hg, -, hrec, -, -, -, hitf, hpool, hmeth, hfields, hty, hres, -⟩ := Lambda.isMade_spec hmade
  cases hk.symm.trans hd'
  rw [hname] at hcf
  have hcf : lm14s.file "OfferSky$State" = some cf := hcf
  rw [lm14file] at hcf
  cases hcf
  cases hobj.symm.trans hfO
  cases hok.symm.trans hkO
  have hok0 : kO.instanceTypes = #[] := Array.eq_empty_of_size_eq_zero hszO
  rw [hszO, lm14laid] at hlay
  cases hlay
  obtain ⟨b, hbm, hsame⟩ := hmeth 1 lm14M (lm14second methods hms)
  obtain ⟨hn, -, hsig, hfl, x, yy, hfc, hbc, -, hmxl, hcc, -⟩ := Lambda.sameMethod_spec hsame
  have fc := lm14code
  have ff := lm14flags
  simp only [Prod.mk.injEq] at ff
  simp only [hfc, Option.map_some, Option.some.injEq, Prod.mk.injEq] at fc
  have hkn : k.name = "OfferSky$State$$Lambda" := by rw [hrec.1, hname]; rfl
  have hO1 : U.vm.findClass "OfferSky$Offer" = some ((gD g).1 5) := (hKV.1.1 5 _ rfl).2.1
  obtain ⟨kOf, hkOf, -⟩ := (hKV.1.1 5 _ rfl).2.2
  have hmk : U.vm.method? ⟨gL g 14, 1⟩ = some b := by simp [Vm.method?, hkk, hbm]
  refine ⟨⟨⟨b, yy, hmk, hbc, ?_, State.plainMethod.of_name (fun k' hk' => by cases hkk.symm.trans hk'; rw [hkn]; decide), by rw [hmxl]; exact fc.2, by rw [hcc]; exact ByteArray.ext fc.1, by rw [hsig]; exact ff.2.2, by rw [hfl]; exact ff.1⟩, k, hkk, by rw [hty.1, hok0, lm14types]; rfl, hrec.2.1⟩, ?_, ⟨(gD g).1 5, kOf, ⟨k, hkk, hres 19 _ (Lambda.resolvedOf_class lm14eO.1 lm14eO.2.2 lm14eO.2.1 hO1)⟩, hO1, hkOf⟩, ?_⟩
  · simp [Method.locks, Method.isSynchronized, hfl, ff.1, hasFlag, Acc.synchronized]
  · obtain ⟨g0, hg0, hp0⟩ := Option.map_eq_some_iff.mp lm14eF0.2.2.2
    simp only [Prod.mk.injEq] at hp0
    exact ⟨g0, ⟨k, 0, k, hkk, hres 15 _ (Lambda.resolvedOf_field lm14eF0.1 lm14eF0.2.1 lm14eF0.2.2.1), hkk, hfields 0 _ hg0⟩, hp0.1, hp0.2⟩
  · exact FwV.of hkk hfile (by rw [hpool.2.1]; exact lm14eM.1) ⟨k, hkk, hres 25 _ (Lambda.resolvedOf_method lm14eM.1 lm14eM.2.1 ht htk lm14eM.2.2 hg)⟩ ⟨k, hkk, hres 21 _ (Lambda.resolvedOf_class lm14eC.1 lm14eC.2.2 lm14eC.2.1 ht)⟩ ht htk hitf hg (by decide) (hw _ q1266) (hw _ q1265) (hw _ qs40) (sig := ⟨[.object "OfferSky$Offer", .object "OfferSky$Offer"], some .boolean⟩) (by decide +kernel) rfl
def lm15s : Lambda.Shape := ({ iface := "OfferSky$Choice", name := "holds", sam := ({ parameters := [(Jvm.ClassFile.FieldType.object "java/lang/Object")], returnType := (Option.some Jvm.ClassFile.FieldType.boolean) } : Jvm.ClassFile.MethodDescriptor), captured := [(Jvm.ClassFile.FieldType.object "OfferSky$State"), (Jvm.ClassFile.FieldType.object "OfferSky$Offer")], kind := 5, implClass := "OfferSky$State", implName := "lambda$wouldFall$13", implDesc := ({ parameters := [(Jvm.ClassFile.FieldType.object "OfferSky$Offer"), (Jvm.ClassFile.FieldType.object "OfferSky$Offer")], returnType := (Option.some Jvm.ClassFile.FieldType.boolean) } : Jvm.ClassFile.MethodDescriptor), implItf := false, inst := ({ parameters := [(Jvm.ClassFile.FieldType.object "OfferSky$Offer")], returnType := (Option.some Jvm.ClassFile.FieldType.boolean) } : Jvm.ClassFile.MethodDescriptor) } : Jvm.Lambda.Shape)
theorem lm15q : ls_all[15]? = some (⟨"OfferSky$State", "wouldFall", "(LOfferSky$Offer;)I"⟩, 23, 176, lm15s) := rfl
def lm15f : ByteArray := ⟨#[42, 180, 0, 17, 42, 180, 0, 19, 43, 192, 0, 23, 182, 0, 29, 172]⟩
theorem lm15d0 : decode lm15f 0 = .ok (.aload_n 0, 1) := by decide +kernel
theorem lm15d1 : decode lm15f 1 = .ok (.getfield 17, 3) := by decide +kernel
theorem lm15d4 : decode lm15f 4 = .ok (.aload_n 0, 1) := by decide +kernel
theorem lm15d5 : decode lm15f 5 = .ok (.getfield 19, 3) := by decide +kernel
theorem lm15d8 : decode lm15f 8 = .ok (.aload_n 1, 1) := by decide +kernel
theorem lm15d9 : decode lm15f 9 = .ok (.checkcast 23, 3) := by decide +kernel
theorem lm15d12 : decode lm15f 12 = .ok (.invokevirtual 29, 3) := by decide +kernel
theorem lm15d15 : decode lm15f 15 = .ok (.ireturn, 1) := by decide +kernel
def lm15D : ClassFile := (lm15s.file "OfferSky$State").getD { minorVersion := 0, majorVersion := 0, constantPool := #[], accessFlags := 0, thisClass := 0, superClass := 0, interfaces := #[], fields := #[], methods := #[], attributes := #[] }
def lm15M : Method := ((layoutMethods lm15D).bind (·[1]?)).getD default
def lm15L : Array Field × Array FieldType × Array FieldType := (layoutFields lm15D 0).getD (#[], #[], #[])
theorem lm15file : lm15s.file "OfferSky$State" = some lm15D := by
  have h : (lm15s.file "OfferSky$State").isSome = true := by decide +kernel
  obtain ⟨x, hx⟩ := Option.isSome_iff_exists.mp h
  simp [lm15D, hx]
theorem lm15second : ∀ ms, layoutMethods lm15D = some ms → ms[1]? = some lm15M := by
  intro ms hms
  have h : ((layoutMethods lm15D).bind (·[1]?)).isSome = true := by decide +kernel
  obtain ⟨x, hx⟩ := Option.isSome_iff_exists.mp h
  have hf : lm15M = x := by simp [lm15M, hx]
  rw [hms] at hx
  rw [hf]
  exact hx
theorem lm15laid : layoutFields lm15D 0 = some lm15L := by
  have h : (layoutFields lm15D 0).isSome = true := by decide +kernel
  obtain ⟨x, hx⟩ := Option.isSome_iff_exists.mp h
  simp [lm15L, hx]
theorem lm15code : (lm15M.code.map fun c => (c.code.data, c.maxLocals)) = some (lm15f.data, 2) := by decide +kernel
theorem lm15flags : (lm15M.accessFlags, lm15M.name, lm15M.sig.returnType) = (0x0001, "holds", (some .boolean : Option FieldType)) := by decide +kernel
theorem lm15eM : lm15D.constantPool[29]? = some (.methodref 25 28) ∧ lm15D.constantPool.className? 25 = some "OfferSky$State" ∧ lm15D.constantPool.nameAndType? 28 = some ("lambda$wouldFall$13", "(LOfferSky$Offer;LOfferSky$Offer;)Z") := by decide +kernel
theorem lm15eC : lm15D.constantPool[25]? = some (.class_ 24) ∧ lm15D.constantPool.string? 24 = some "OfferSky$State" ∧ 25 ≠ lm15D.thisClass := by decide +kernel
theorem lm15eO : lm15D.constantPool[23]? = some (.class_ 22) ∧ lm15D.constantPool.string? 22 = some "OfferSky$Offer" ∧ 23 ≠ lm15D.thisClass := by decide +kernel
theorem lm15eF0 : lm15D.constantPool[17]? = some (.fieldref 2 16) ∧ lm15D.constantPool.nameAndType? 16 = some ("arg$1", "LOfferSky$State;") ∧ lm15L.1.findIdx? (·.name == "arg$1") = some 0 ∧ (lm15L.1[0]?).map (fun f => (f.isStatic, f.slot)) = some (false, 0) := by decide +kernel
theorem lm15eF1 : lm15D.constantPool[19]? = some (.fieldref 2 18) ∧ lm15D.constantPool.nameAndType? 18 = some ("arg$2", "LOfferSky$Offer;") ∧ lm15L.1.findIdx? (·.name == "arg$2") = some 1 ∧ (lm15L.1[1]?).map (fun f => (f.isStatic, f.slot)) = some (false, 1) := by decide +kernel
theorem lm15types : lm15L.2.1 = #[.object "OfferSky$State", .object "OfferSky$Offer"] := by decide +kernel
set_option maxHeartbeats 4000000 in
theorem lm15 {g : GT} {U : State} {A : Array Value} (hKV : KV g U) (hw : ∀ w ∈ lw_all, w.before A U = true) : (FwB U (gL g 15) lm15f 2 ∧ (∃ kC, U.vm.classes[gL g 15]? = some kC ∧ kC.instanceTypes = #[.object "OfferSky$State", .object "OfferSky$Offer"] ∧ kC.kind = .ordinary)) ∧ (FwF U (gL g 15) 17 0 ∧ FwF U (gL g 15) 19 1) ∧ FwC U (gL g 15) 23 "OfferSky$Offer" ∧ (FwV U (gL g 15) 29 yX2_lambda_wouldFall_13 2) := by
  have hs : U.lambdaAt? ⟨"OfferSky$State", "wouldFall", "(LOfferSky$Offer;)I"⟩ 23 176 lm15s = some (gL g 15, none) := hKV.2.2.2.1 15 _ lm15q
  obtain ⟨m, kc, cf0, i0, p0, l, hm, hk, hcf0, hsh, hin, hfind, hmade, hcall, hl⟩ := State.lambdaAt?_spec hs
  obtain ⟨kc', hkc', hname⟩ := className_of_methodNamed hm
  cases hk.symm.trans hkc'
  obtain ⟨cO, kO, hfO, hkO, -, -, -, hszO⟩ := Cond.instantiable_spec (hw _ q2342)
  obtain ⟨dk', k, ok, tk, file, cf, object, iface, toy, lay, methods, target, found, hd', hkk, hfile, hcf, hobj, -, hok, hlay, hms, ht, htk, hg, -, hrec, -, -, -, hitf, hpool, hmeth, hfields, hty, hres, -⟩ := Lambda.isMade_spec hmade
  cases hk.symm.trans hd'
  rw [hname] at hcf
  have hcf : lm15s.file "OfferSky$State" = some cf := hcf
  rw [lm15file] at hcf
  cases hcf
  cases hobj.symm.trans hfO
  cases hok.symm.trans hkO
  have hok0 : kO.instanceTypes = #[] := Array.eq_empty_of_size_eq_zero hszO
  rw [hszO, lm15laid] at hlay
  cases hlay
  obtain ⟨b, hbm, hsame⟩ := hmeth 1 lm15M (lm15second methods hms)
  obtain ⟨hn, -, hsig, hfl, x, yy, hfc, hbc, -, hmxl, hcc, -⟩ := Lambda.sameMethod_spec hsame
  have fc := lm15code
  have ff := lm15flags
  simp only [Prod.mk.injEq] at ff
  simp only [hfc, Option.map_some, Option.some.injEq, Prod.mk.injEq] at fc
  have hkn : k.name = "OfferSky$State$$Lambda" := by rw [hrec.1, hname]; rfl
  have hO1 : U.vm.findClass "OfferSky$Offer" = some ((gD g).1 5) := (hKV.1.1 5 _ rfl).2.1
  obtain ⟨kOf, hkOf, -⟩ := (hKV.1.1 5 _ rfl).2.2
  have hmk : U.vm.method? ⟨gL g 15, 1⟩ = some b := by simp [Vm.method?, hkk, hbm]
  refine ⟨⟨⟨b, yy, hmk, hbc, ?_, State.plainMethod.of_name (fun k' hk' => by cases hkk.symm.trans hk'; rw [hkn]; decide), by rw [hmxl]; exact fc.2, by rw [hcc]; exact ByteArray.ext fc.1, by rw [hsig]; exact ff.2.2, by rw [hfl]; exact ff.1⟩, k, hkk, by rw [hty.1, hok0, lm15types]; rfl, hrec.2.1⟩, ⟨?_, ?_⟩, ⟨(gD g).1 5, kOf, ⟨k, hkk, hres 23 _ (Lambda.resolvedOf_class lm15eO.1 lm15eO.2.2 lm15eO.2.1 hO1)⟩, hO1, hkOf⟩, ?_⟩
  · simp [Method.locks, Method.isSynchronized, hfl, ff.1, hasFlag, Acc.synchronized]
  · obtain ⟨g0, hg0, hp0⟩ := Option.map_eq_some_iff.mp lm15eF0.2.2.2
    simp only [Prod.mk.injEq] at hp0
    exact ⟨g0, ⟨k, 0, k, hkk, hres 17 _ (Lambda.resolvedOf_field lm15eF0.1 lm15eF0.2.1 lm15eF0.2.2.1), hkk, hfields 0 _ hg0⟩, hp0.1, hp0.2⟩
  · obtain ⟨g0, hg0, hp0⟩ := Option.map_eq_some_iff.mp lm15eF1.2.2.2
    simp only [Prod.mk.injEq] at hp0
    exact ⟨g0, ⟨k, 1, k, hkk, hres 19 _ (Lambda.resolvedOf_field lm15eF1.1 lm15eF1.2.1 lm15eF1.2.2.1), hkk, hfields 1 _ hg0⟩, hp0.1, hp0.2⟩
  · exact FwV.of hkk hfile (by rw [hpool.2.1]; exact lm15eM.1) ⟨k, hkk, hres 29 _ (Lambda.resolvedOf_method lm15eM.1 lm15eM.2.1 ht htk lm15eM.2.2 hg)⟩ ⟨k, hkk, hres 25 _ (Lambda.resolvedOf_class lm15eC.1 lm15eC.2.2 lm15eC.2.1 ht)⟩ ht htk hitf hg (by decide) (hw _ q1722) (hw _ q1721) (hw _ qs48) (sig := ⟨[.object "OfferSky$Offer", .object "OfferSky$Offer"], some .boolean⟩) (by decide +kernel) rfl
def lm16s : Lambda.Shape := ({ iface := "OfferSky$Choice", name := "holds", sam := ({ parameters := [(Jvm.ClassFile.FieldType.object "java/lang/Object")], returnType := (Option.some Jvm.ClassFile.FieldType.boolean) } : Jvm.ClassFile.MethodDescriptor), captured := [(Jvm.ClassFile.FieldType.object "OfferSky$Offer")], kind := 6, implClass := "OfferSky$State", implName := "lambda$isToldWith$14", implDesc := ({ parameters := [(Jvm.ClassFile.FieldType.object "OfferSky$Offer"), (Jvm.ClassFile.FieldType.object "OfferSky$Offer")], returnType := (Option.some Jvm.ClassFile.FieldType.boolean) } : Jvm.ClassFile.MethodDescriptor), implItf := false, inst := ({ parameters := [(Jvm.ClassFile.FieldType.object "OfferSky$Offer")], returnType := (Option.some Jvm.ClassFile.FieldType.boolean) } : Jvm.ClassFile.MethodDescriptor) } : Jvm.Lambda.Shape)
theorem lm16q : ls_all[16]? = some (⟨"OfferSky$State", "isToldWith", "(LOfferSky$Offer;II)Z"⟩, 19, 181, lm16s) := rfl
def lm16f : ByteArray := ⟨#[42, 180, 0, 15, 43, 192, 0, 19, 184, 0, 25, 172]⟩
theorem lm16d0 : decode lm16f 0 = .ok (.aload_n 0, 1) := by decide +kernel
theorem lm16d1 : decode lm16f 1 = .ok (.getfield 15, 3) := by decide +kernel
theorem lm16d4 : decode lm16f 4 = .ok (.aload_n 1, 1) := by decide +kernel
theorem lm16d5 : decode lm16f 5 = .ok (.checkcast 19, 3) := by decide +kernel
theorem lm16d8 : decode lm16f 8 = .ok (.invokestatic 25, 3) := by decide +kernel
theorem lm16d11 : decode lm16f 11 = .ok (.ireturn, 1) := by decide +kernel
def lm16D : ClassFile := (lm16s.file "OfferSky$State").getD { minorVersion := 0, majorVersion := 0, constantPool := #[], accessFlags := 0, thisClass := 0, superClass := 0, interfaces := #[], fields := #[], methods := #[], attributes := #[] }
def lm16M : Method := ((layoutMethods lm16D).bind (·[1]?)).getD default
def lm16L : Array Field × Array FieldType × Array FieldType := (layoutFields lm16D 0).getD (#[], #[], #[])
theorem lm16file : lm16s.file "OfferSky$State" = some lm16D := by
  have h : (lm16s.file "OfferSky$State").isSome = true := by decide +kernel
  obtain ⟨x, hx⟩ := Option.isSome_iff_exists.mp h
  simp [lm16D, hx]
theorem lm16second : ∀ ms, layoutMethods lm16D = some ms → ms[1]? = some lm16M := by
  intro ms hms
  have h : ((layoutMethods lm16D).bind (·[1]?)).isSome = true := by decide +kernel
  obtain ⟨x, hx⟩ := Option.isSome_iff_exists.mp h
  have hf : lm16M = x := by simp [lm16M, hx]
  rw [hms] at hx
  rw [hf]
  exact hx
theorem lm16laid : layoutFields lm16D 0 = some lm16L := by
  have h : (layoutFields lm16D 0).isSome = true := by decide +kernel
  obtain ⟨x, hx⟩ := Option.isSome_iff_exists.mp h
  simp [lm16L, hx]
theorem lm16code : (lm16M.code.map fun c => (c.code.data, c.maxLocals)) = some (lm16f.data, 2) := by decide +kernel
theorem lm16flags : (lm16M.accessFlags, lm16M.name, lm16M.sig.returnType) = (0x0001, "holds", (some .boolean : Option FieldType)) := by decide +kernel
theorem lm16eM : lm16D.constantPool[25]? = some (.methodref 21 24) ∧ lm16D.constantPool.className? 21 = some "OfferSky$State" ∧ lm16D.constantPool.nameAndType? 24 = some ("lambda$isToldWith$14", "(LOfferSky$Offer;LOfferSky$Offer;)Z") := by decide +kernel
theorem lm16eC : lm16D.constantPool[21]? = some (.class_ 20) ∧ lm16D.constantPool.string? 20 = some "OfferSky$State" ∧ 21 ≠ lm16D.thisClass := by decide +kernel
theorem lm16eO : lm16D.constantPool[19]? = some (.class_ 18) ∧ lm16D.constantPool.string? 18 = some "OfferSky$Offer" ∧ 19 ≠ lm16D.thisClass := by decide +kernel
theorem lm16eF0 : lm16D.constantPool[15]? = some (.fieldref 2 14) ∧ lm16D.constantPool.nameAndType? 14 = some ("arg$1", "LOfferSky$Offer;") ∧ lm16L.1.findIdx? (·.name == "arg$1") = some 0 ∧ (lm16L.1[0]?).map (fun f => (f.isStatic, f.slot)) = some (false, 0) := by decide +kernel
theorem lm16types : lm16L.2.1 = #[.object "OfferSky$Offer"] := by decide +kernel
set_option maxHeartbeats 4000000 in
theorem lm16 {g : GT} {U : State} {A : Array Value} (hKV : KV g U) (hw : ∀ w ∈ lw_all, w.before A U = true) : (FwB U (gL g 16) lm16f 2 ∧ (∃ kC, U.vm.classes[gL g 16]? = some kC ∧ kC.instanceTypes = #[.object "OfferSky$Offer"] ∧ kC.kind = .ordinary)) ∧ (FwF U (gL g 16) 15 0) ∧ FwC U (gL g 16) 19 "OfferSky$Offer" ∧ (∀ e : Env, FwS e U (gL g 16) 25 yX2_lambda_isToldWith_14 2) := by
  have hs : U.lambdaAt? ⟨"OfferSky$State", "isToldWith", "(LOfferSky$Offer;II)Z"⟩ 19 181 lm16s = some (gL g 16, none) := hKV.2.2.2.1 16 _ lm16q
  obtain ⟨m, kc, cf0, i0, p0, l, hm, hk, hcf0, hsh, hin, hfind, hmade, hcall, hl⟩ := State.lambdaAt?_spec hs
  obtain ⟨kc', hkc', hname⟩ := className_of_methodNamed hm
  cases hk.symm.trans hkc'
  obtain ⟨cO, kO, hfO, hkO, -, -, -, hszO⟩ := Cond.instantiable_spec (hw _ q2342)
  obtain ⟨dk', k, ok, tk, file, cf, object, iface, toy, lay, methods, target, found, hd', hkk, hfile, hcf, hobj, -, hok, hlay, hms, ht, htk, hg, -, hrec, -, -, -, hitf, hpool, hmeth, hfields, hty, hres, -⟩ := Lambda.isMade_spec hmade
  cases hk.symm.trans hd'
  rw [hname] at hcf
  have hcf : lm16s.file "OfferSky$State" = some cf := hcf
  rw [lm16file] at hcf
  cases hcf
  cases hobj.symm.trans hfO
  cases hok.symm.trans hkO
  have hok0 : kO.instanceTypes = #[] := Array.eq_empty_of_size_eq_zero hszO
  rw [hszO, lm16laid] at hlay
  cases hlay
  obtain ⟨b, hbm, hsame⟩ := hmeth 1 lm16M (lm16second methods hms)
  obtain ⟨hn, -, hsig, hfl, x, yy, hfc, hbc, -, hmxl, hcc, -⟩ := Lambda.sameMethod_spec hsame
  have fc := lm16code
  have ff := lm16flags
  simp only [Prod.mk.injEq] at ff
  simp only [hfc, Option.map_some, Option.some.injEq, Prod.mk.injEq] at fc
  have hkn : k.name = "OfferSky$State$$Lambda" := by rw [hrec.1, hname]; rfl
  have hO1 : U.vm.findClass "OfferSky$Offer" = some ((gD g).1 5) := (hKV.1.1 5 _ rfl).2.1
  obtain ⟨kOf, hkOf, -⟩ := (hKV.1.1 5 _ rfl).2.2
  have hmk : U.vm.method? ⟨gL g 16, 1⟩ = some b := by simp [Vm.method?, hkk, hbm]
  refine ⟨⟨⟨b, yy, hmk, hbc, ?_, State.plainMethod.of_name (fun k' hk' => by cases hkk.symm.trans hk'; rw [hkn]; decide), by rw [hmxl]; exact fc.2, by rw [hcc]; exact ByteArray.ext fc.1, by rw [hsig]; exact ff.2.2, by rw [hfl]; exact ff.1⟩, k, hkk, by rw [hty.1, hok0, lm16types]; rfl, hrec.2.1⟩, ?_, ⟨(gD g).1 5, kOf, ⟨k, hkk, hres 19 _ (Lambda.resolvedOf_class lm16eO.1 lm16eO.2.2 lm16eO.2.1 hO1)⟩, hO1, hkOf⟩, ?_⟩
  · simp [Method.locks, Method.isSynchronized, hfl, ff.1, hasFlag, Acc.synchronized]
  · obtain ⟨g0, hg0, hp0⟩ := Option.map_eq_some_iff.mp lm16eF0.2.2.2
    simp only [Prod.mk.injEq] at hp0
    exact ⟨g0, ⟨k, 0, k, hkk, hres 15 _ (Lambda.resolvedOf_field lm16eF0.1 lm16eF0.2.1 lm16eF0.2.2.1), hkk, hfields 0 _ hg0⟩, hp0.1, hp0.2⟩
  · intro e
    exact FwS.of hkk hfile (by rw [hpool.2.1]; exact lm16eM.1) (by rw [hpool.2.1]; exact lm16eM.2.2) ⟨k, hkk, hres 25 _ (Lambda.resolvedOf_method lm16eM.1 lm16eM.2.1 ht htk lm16eM.2.2 hg)⟩ ⟨k, hkk, hres 21 _ (Lambda.resolvedOf_class lm16eC.1 lm16eC.2.2 lm16eC.2.1 ht)⟩ ht htk hg (by decide) (hw _ q1747) (hw _ q1746) (hw _ q100) (sig := ⟨[.object "OfferSky$Offer", .object "OfferSky$Offer"], some .boolean⟩) (by decide +kernel) rfl
