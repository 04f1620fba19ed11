/-! the lambdas' classes: what the tables hold of them -/
set_option maxRecDepth 100000
/-- what a walk through a lambda's class asks of the tables: the places of its fields, of its cast, of the call -/
def zm_F (vm : Vm) (c : ClassId) (bytes : ByteArray) (mi ci nt ct : Nat) (y : MethodName) (cT : String) (fl : List Nat) : Prop :=
  ∃ (k tk : Class) (file : ClassFile) (methk : Method) (ck : Code) (toy tT : ClassId) (t : MethodId),
    vm.classes[c]? = some k ∧ k.name = "CartelWatch$$Lambda" ∧ k.cf = some file ∧ (file.constantPool[mi]? = some (.methodref ci nt) ∧ file.constantPool.nameAndType? nt = some (y.name, y.desc)) ∧
    vm.method? ⟨c, 1⟩ = some methk ∧ (methk.code = some ck ∧ ck.code = bytes ∧ ck.maxLocals = 2) ∧ (methk.locks = false ∧ methk.accessFlags = 0x0001 ∧ methk.sig.returnType = some .int) ∧
    vm.findClass y.cls = some toy ∧ vm.classes[toy]? = some tk ∧ ((methodIn toy y.name y.desc tk.isInterface none).ask { classPath := fun _ => none } vm).1 = .ok t ∧
    vm.methodReady c mi t ∧ vm.classReady c ci toy ∧ (vm.findClass cT = some tT ∧ vm.classReady c ct tT) ∧
    (∀ (j q : Nat), fl[j]? = some q → ∃ g : Field, vm.fieldReady c q c g ∧ g.isStatic = false ∧ g.slot = j) ∧
    (k.instanceTypes = (List.replicate fl.length FieldType.int).toArray ∧ k.kind = .ordinary)
def zm_D0 : ClassFile := { minorVersion := 0, majorVersion := 0, constantPool := #[], accessFlags := 0, thisClass := 0, superClass := 0, interfaces := #[], fields := #[], methods := #[], attributes := #[] }
def zm0_B : ByteArray := ⟨#[42, 180, 0, 15, 43, 192, 0, 19, 184, 0, 25, 172]⟩
theorem zm0_d0 : decode zm0_B 0 = .ok (.aload_n 0, 1) := by decide +kernel
theorem zm0_d1 : decode zm0_B 1 = .ok (.getfield 15, 3) := by decide +kernel
theorem zm0_d4 : decode zm0_B 4 = .ok (.aload_n 1, 1) := by decide +kernel
theorem zm0_d5 : decode zm0_B 5 = .ok (.checkcast 19, 3) := by decide +kernel
theorem zm0_d8 : decode zm0_B 8 = .ok (.invokestatic 25, 3) := by decide +kernel
theorem zm0_d11 : decode zm0_B 11 = .ok (.ireturn, 1) := by decide +kernel
def zm0_D : ClassFile := (zw_s0.file "CartelWatch").getD zm_D0
def zm0_M : Method := ((layoutMethods zm0_D).bind (·[1]?)).getD default
def zm0_L : Array Field × Array FieldType × Array FieldType := (layoutFields zm0_D 0).getD (#[], #[], #[])
theorem zm0_file : zw_s0.file "CartelWatch" = some zm0_D := by
  have h : (zw_s0.file "CartelWatch").isSome = true := by decide +kernel
  obtain ⟨x, hx⟩ := Option.isSome_iff_exists.mp h
  simp [zm0_D, hx]
theorem zm0_second : ∀ ms, layoutMethods zm0_D = some ms → ms[1]? = some zm0_M := by
  intro ms hms
  have h : ((layoutMethods zm0_D).bind (·[1]?)).isSome = true := by decide +kernel
  obtain ⟨x, hx⟩ := Option.isSome_iff_exists.mp h
  have hf : zm0_M = x := by simp [zm0_M, hx]
  rw [hms] at hx
  rw [hf]
  exact hx
theorem zm0_laid : layoutFields zm0_D 0 = some zm0_L := by
  have h : (layoutFields zm0_D 0).isSome = true := by decide +kernel
  obtain ⟨x, hx⟩ := Option.isSome_iff_exists.mp h
  simp [zm0_L, hx]
theorem zm0_code : (zm0_M.code.map fun c => (c.code.data, c.maxLocals)) = some (zm0_B.data, 2) := by decide +kernel
theorem zm0_flags : (zm0_M.accessFlags, zm0_M.name, zm0_M.sig.returnType) = (0x0001, "of", (some .int : Option FieldType)) := by decide +kernel
theorem zm0_eM : zm0_D.constantPool[25]? = some (.methodref 21 24) ∧ zm0_D.constantPool.className? 21 = some "CartelWatch" ∧ zm0_D.constantPool.nameAndType? 24 = some ("lambda$turnoverOf$0", "(ILCartelWatch$Tender;)I") := by decide +kernel
theorem zm0_eC : zm0_D.constantPool[21]? = some (.class_ 20) ∧ zm0_D.constantPool.string? 20 = some "CartelWatch" ∧ 21 ≠ zm0_D.thisClass := by decide +kernel
theorem zm0_eT : zm0_D.constantPool[19]? = some (.class_ 18) ∧ zm0_D.constantPool.string? 18 = some "CartelWatch$Tender" ∧ 19 ≠ zm0_D.thisClass := by decide +kernel
theorem zm0_types : zm0_L.2.1 = #[.int] := by decide +kernel
theorem zm0_eF0 : zm0_D.constantPool[15]? = some (.fieldref 2 14) ∧ zm0_D.constantPool.nameAndType? 14 = some ("arg$1", "I") ∧ zm0_L.1.findIdx? (·.name == "arg$1") = some 0 ∧ (zm0_L.1[0]?).map (fun f => (f.isStatic, f.slot)) = some (false, 0) := by decide +kernel
theorem zm0_facts {vm : Vm} {d c : ClassId} {dk : Class} (hd : vm.classes[d]? = some dk) (hname : dk.name = "CartelWatch") (h : Lambda.isMade { classPath := fun _ => none } vm d zw_s0 c = true)
    (hO : ∀ o ok, vm.findClass "java/lang/Object" = some o → vm.classes[o]? = some ok → ok.instanceTypes.size = 0) {tT : ClassId} (hT : vm.findClass "CartelWatch$Tender" = some tT) : zm_F vm c zm0_B 25 21 24 19 ⟨"CartelWatch", "lambda$turnoverOf$0", "(ILCartelWatch$Tender;)I"⟩ "CartelWatch$Tender" [15] := by
  obtain ⟨dk', k, ok, tk, file, cf, object, iface, toy, lay, methods, target, found, hd', hk, hfile, hcf, hobj, -, hok, hlay, hms, ht, htk, hg, -, hrec, -, -, -, -, hpool, hmeth, hfields, hty, hres, -⟩ := Lambda.isMade_spec h
  cases hd.symm.trans hd'
  rw [hname, zm0_file] at hcf
  cases hcf
  have hok0 : ok.instanceTypes = #[] := Array.eq_empty_of_size_eq_zero (hO object ok hobj hok)
  rw [hO object ok hobj hok, zm0_laid] at hlay
  cases hlay
  obtain ⟨b, hb, hsame⟩ := hmeth 1 zm0_M (zm0_second methods hms)
  simp only [Lambda.sameMethod, Bool.and_eq_true, decide_eq_true_eq] at hsame
  obtain ⟨⟨hn, -, hsig, hfl⟩, hcode⟩ := hsame
  have fc := zm0_code
  have ff := zm0_flags
  simp only [Prod.mk.injEq] at ff
  obtain ⟨g0, hg0, hp0⟩ := Option.map_eq_some_iff.mp zm0_eF0.2.2.2
  simp only [Prod.mk.injEq] at hp0
  cases hfc : zm0_M.code with
  | none => rw [hfc] at fc; cases fc
  | some x =>
    cases hbc : b.code with
    | none => simp [hfc, hbc] at hcode
    | some z =>
      simp only [hfc, hbc, Bool.and_eq_true, decide_eq_true_eq] at hcode
      simp only [hfc, Option.map_some, Option.some.injEq, Prod.mk.injEq] at fc
      refine ⟨k, tk, file, b, z, toy, tT, target, hk, by rw [hrec.1, hname]; rfl, hfile, by rw [hpool.2.1]; exact ⟨zm0_eM.1, zm0_eM.2.2⟩, by simp [Vm.method?, hk, hb], ⟨hbc, ?_, by rw [← hcode.1.1.1.1.2.1]; exact fc.2⟩, ⟨?_, by rw [← hfl]; exact ff.1, by rw [← hsig]; exact ff.2.2⟩, ht, htk, hg,
        ⟨k, hk, hres 25 _ (Lambda.resolvedOf_method zm0_eM.1 zm0_eM.2.1 ht htk zm0_eM.2.2 hg)⟩, ⟨k, hk, hres 21 _ (Lambda.resolvedOf_class zm0_eC.1 zm0_eC.2.2 zm0_eC.2.1 ht)⟩, ⟨hT, ⟨k, hk, hres 19 _ (Lambda.resolvedOf_class zm0_eT.1 zm0_eT.2.2 zm0_eT.2.1 hT)⟩⟩, ?_, by rw [hty.1, hok0, zm0_types]; rfl, hrec.2.1⟩
      · rw [← hcode.1.1.1.1.2.2]
        exact ByteArray.ext fc.1
      · simp [Method.locks, Method.isSynchronized, ← hfl, ff.1, hasFlag, Acc.synchronized]
      · intro j q hj
        rcases j with _ | _
        · simp only [List.getElem?_cons_zero, Option.some.injEq] at hj
          subst hj
          exact ⟨g0, ⟨k, 0, k, hk, hres 15 _ (Lambda.resolvedOf_field zm0_eF0.1 zm0_eF0.2.1 zm0_eF0.2.2.1), hk, hfields 0 _ hg0⟩, hp0.1, hp0.2⟩
        · simp at hj
def zm1_B : ByteArray := ⟨#[42, 180, 0, 15, 43, 192, 0, 19, 184, 0, 25, 172]⟩
theorem zm1_d0 : decode zm1_B 0 = .ok (.aload_n 0, 1) := by decide +kernel
theorem zm1_d1 : decode zm1_B 1 = .ok (.getfield 15, 3) := by decide +kernel
theorem zm1_d4 : decode zm1_B 4 = .ok (.aload_n 1, 1) := by decide +kernel
theorem zm1_d5 : decode zm1_B 5 = .ok (.checkcast 19, 3) := by decide +kernel
theorem zm1_d8 : decode zm1_B 8 = .ok (.invokestatic 25, 3) := by decide +kernel
theorem zm1_d11 : decode zm1_B 11 = .ok (.ireturn, 1) := by decide +kernel
def zm1_D : ClassFile := (zw_s1.file "CartelWatch").getD zm_D0
def zm1_M : Method := ((layoutMethods zm1_D).bind (·[1]?)).getD default
def zm1_L : Array Field × Array FieldType × Array FieldType := (layoutFields zm1_D 0).getD (#[], #[], #[])
theorem zm1_file : zw_s1.file "CartelWatch" = some zm1_D := by
  have h : (zw_s1.file "CartelWatch").isSome = true := by decide +kernel
  obtain ⟨x, hx⟩ := Option.isSome_iff_exists.mp h
  simp [zm1_D, hx]
theorem zm1_second : ∀ ms, layoutMethods zm1_D = some ms → ms[1]? = some zm1_M := by
  intro ms hms
  have h : ((layoutMethods zm1_D).bind (·[1]?)).isSome = true := by decide +kernel
  obtain ⟨x, hx⟩ := Option.isSome_iff_exists.mp h
  have hf : zm1_M = x := by simp [zm1_M, hx]
  rw [hms] at hx
  rw [hf]
  exact hx
theorem zm1_laid : layoutFields zm1_D 0 = some zm1_L := by
  have h : (layoutFields zm1_D 0).isSome = true := by decide +kernel
  obtain ⟨x, hx⟩ := Option.isSome_iff_exists.mp h
  simp [zm1_L, hx]
theorem zm1_code : (zm1_M.code.map fun c => (c.code.data, c.maxLocals)) = some (zm1_B.data, 2) := by decide +kernel
theorem zm1_flags : (zm1_M.accessFlags, zm1_M.name, zm1_M.sig.returnType) = (0x0001, "of", (some .int : Option FieldType)) := by decide +kernel
theorem zm1_eM : zm1_D.constantPool[25]? = some (.methodref 21 24) ∧ zm1_D.constantPool.className? 21 = some "CartelWatch" ∧ zm1_D.constantPool.nameAndType? 24 = some ("lambda$won$1", "(ILCartelWatch$Tender;)I") := by decide +kernel
theorem zm1_eC : zm1_D.constantPool[21]? = some (.class_ 20) ∧ zm1_D.constantPool.string? 20 = some "CartelWatch" ∧ 21 ≠ zm1_D.thisClass := by decide +kernel
theorem zm1_eT : zm1_D.constantPool[19]? = some (.class_ 18) ∧ zm1_D.constantPool.string? 18 = some "CartelWatch$Tender" ∧ 19 ≠ zm1_D.thisClass := by decide +kernel
theorem zm1_types : zm1_L.2.1 = #[.int] := by decide +kernel
theorem zm1_eF0 : zm1_D.constantPool[15]? = some (.fieldref 2 14) ∧ zm1_D.constantPool.nameAndType? 14 = some ("arg$1", "I") ∧ zm1_L.1.findIdx? (·.name == "arg$1") = some 0 ∧ (zm1_L.1[0]?).map (fun f => (f.isStatic, f.slot)) = some (false, 0) := by decide +kernel
theorem zm1_facts {vm : Vm} {d c : ClassId} {dk : Class} (hd : vm.classes[d]? = some dk) (hname : dk.name = "CartelWatch") (h : Lambda.isMade { classPath := fun _ => none } vm d zw_s1 c = true)
    (hO : ∀ o ok, vm.findClass "java/lang/Object" = some o → vm.classes[o]? = some ok → ok.instanceTypes.size = 0) {tT : ClassId} (hT : vm.findClass "CartelWatch$Tender" = some tT) : zm_F vm c zm1_B 25 21 24 19 ⟨"CartelWatch", "lambda$won$1", "(ILCartelWatch$Tender;)I"⟩ "CartelWatch$Tender" [15] := by
  obtain ⟨dk', k, ok, tk, file, cf, object, iface, toy, lay, methods, target, found, hd', hk, hfile, hcf, hobj, -, hok, hlay, hms, ht, htk, hg, -, hrec, -, -, -, -, hpool, hmeth, hfields, hty, hres, -⟩ := Lambda.isMade_spec h
  cases hd.symm.trans hd'
  rw [hname, zm1_file] at hcf
  cases hcf
  have hok0 : ok.instanceTypes = #[] := Array.eq_empty_of_size_eq_zero (hO object ok hobj hok)
  rw [hO object ok hobj hok, zm1_laid] at hlay
  cases hlay
  obtain ⟨b, hb, hsame⟩ := hmeth 1 zm1_M (zm1_second methods hms)
  simp only [Lambda.sameMethod, Bool.and_eq_true, decide_eq_true_eq] at hsame
  obtain ⟨⟨hn, -, hsig, hfl⟩, hcode⟩ := hsame
  have fc := zm1_code
  have ff := zm1_flags
  simp only [Prod.mk.injEq] at ff
  obtain ⟨g0, hg0, hp0⟩ := Option.map_eq_some_iff.mp zm1_eF0.2.2.2
  simp only [Prod.mk.injEq] at hp0
  cases hfc : zm1_M.code with
  | none => rw [hfc] at fc; cases fc
  | some x =>
    cases hbc : b.code with
    | none => simp [hfc, hbc] at hcode
    | some z =>
      simp only [hfc, hbc, Bool.and_eq_true, decide_eq_true_eq] at hcode
      simp only [hfc, Option.map_some, Option.some.injEq, Prod.mk.injEq] at fc
      refine ⟨k, tk, file, b, z, toy, tT, target, hk, by rw [hrec.1, hname]; rfl, hfile, by rw [hpool.2.1]; exact ⟨zm1_eM.1, zm1_eM.2.2⟩, by simp [Vm.method?, hk, hb], ⟨hbc, ?_, by rw [← hcode.1.1.1.1.2.1]; exact fc.2⟩, ⟨?_, by rw [← hfl]; exact ff.1, by rw [← hsig]; exact ff.2.2⟩, ht, htk, hg,
        ⟨k, hk, hres 25 _ (Lambda.resolvedOf_method zm1_eM.1 zm1_eM.2.1 ht htk zm1_eM.2.2 hg)⟩, ⟨k, hk, hres 21 _ (Lambda.resolvedOf_class zm1_eC.1 zm1_eC.2.2 zm1_eC.2.1 ht)⟩, ⟨hT, ⟨k, hk, hres 19 _ (Lambda.resolvedOf_class zm1_eT.1 zm1_eT.2.2 zm1_eT.2.1 hT)⟩⟩, ?_, by rw [hty.1, hok0, zm1_types]; rfl, hrec.2.1⟩
      · rw [← hcode.1.1.1.1.2.2]
        exact ByteArray.ext fc.1
      · simp [Method.locks, Method.isSynchronized, ← hfl, ff.1, hasFlag, Acc.synchronized]
      · intro j q hj
        rcases j with _ | _
        · simp only [List.getElem?_cons_zero, Option.some.injEq] at hj
          subst hj
          exact ⟨g0, ⟨k, 0, k, hk, hres 15 _ (Lambda.resolvedOf_field zm1_eF0.1 zm1_eF0.2.1 zm1_eF0.2.2.1), hk, hfields 0 _ hg0⟩, hp0.1, hp0.2⟩
        · simp at hj
def zm2_B : ByteArray := ⟨#[42, 180, 0, 16, 42, 180, 0, 18, 43, 192, 0, 22, 184, 0, 28, 172]⟩
theorem zm2_d0 : decode zm2_B 0 = .ok (.aload_n 0, 1) := by decide +kernel
theorem zm2_d1 : decode zm2_B 1 = .ok (.getfield 16, 3) := by decide +kernel
theorem zm2_d4 : decode zm2_B 4 = .ok (.aload_n 0, 1) := by decide +kernel
theorem zm2_d5 : decode zm2_B 5 = .ok (.getfield 18, 3) := by decide +kernel
theorem zm2_d8 : decode zm2_B 8 = .ok (.aload_n 1, 1) := by decide +kernel
theorem zm2_d9 : decode zm2_B 9 = .ok (.checkcast 22, 3) := by decide +kernel
theorem zm2_d12 : decode zm2_B 12 = .ok (.invokestatic 28, 3) := by decide +kernel
theorem zm2_d15 : decode zm2_B 15 = .ok (.ireturn, 1) := by decide +kernel
def zm2_D : ClassFile := (zw_s2.file "CartelWatch").getD zm_D0
def zm2_M : Method := ((layoutMethods zm2_D).bind (·[1]?)).getD default
def zm2_L : Array Field × Array FieldType × Array FieldType := (layoutFields zm2_D 0).getD (#[], #[], #[])
theorem zm2_file : zw_s2.file "CartelWatch" = some zm2_D := by
  have h : (zw_s2.file "CartelWatch").isSome = true := by decide +kernel
  obtain ⟨x, hx⟩ := Option.isSome_iff_exists.mp h
  simp [zm2_D, hx]
theorem zm2_second : ∀ ms, layoutMethods zm2_D = some ms → ms[1]? = some zm2_M := by
  intro ms hms
  have h : ((layoutMethods zm2_D).bind (·[1]?)).isSome = true := by decide +kernel
  obtain ⟨x, hx⟩ := Option.isSome_iff_exists.mp h
  have hf : zm2_M = x := by simp [zm2_M, hx]
  rw [hms] at hx
  rw [hf]
  exact hx
theorem zm2_laid : layoutFields zm2_D 0 = some zm2_L := by
  have h : (layoutFields zm2_D 0).isSome = true := by decide +kernel
  obtain ⟨x, hx⟩ := Option.isSome_iff_exists.mp h
  simp [zm2_L, hx]
theorem zm2_code : (zm2_M.code.map fun c => (c.code.data, c.maxLocals)) = some (zm2_B.data, 2) := by decide +kernel
theorem zm2_flags : (zm2_M.accessFlags, zm2_M.name, zm2_M.sig.returnType) = (0x0001, "of", (some .int : Option FieldType)) := by decide +kernel
theorem zm2_eM : zm2_D.constantPool[28]? = some (.methodref 24 27) ∧ zm2_D.constantPool.className? 24 = some "CartelWatch" ∧ zm2_D.constantPool.nameAndType? 27 = some ("lambda$file$2", "(IILCartelWatch$Inquiry;)I") := by decide +kernel
theorem zm2_eC : zm2_D.constantPool[24]? = some (.class_ 23) ∧ zm2_D.constantPool.string? 23 = some "CartelWatch" ∧ 24 ≠ zm2_D.thisClass := by decide +kernel
theorem zm2_eT : zm2_D.constantPool[22]? = some (.class_ 21) ∧ zm2_D.constantPool.string? 21 = some "CartelWatch$Inquiry" ∧ 22 ≠ zm2_D.thisClass := by decide +kernel
theorem zm2_types : zm2_L.2.1 = #[.int, .int] := by decide +kernel
theorem zm2_eF0 : zm2_D.constantPool[16]? = some (.fieldref 2 15) ∧ zm2_D.constantPool.nameAndType? 15 = some ("arg$1", "I") ∧ zm2_L.1.findIdx? (·.name == "arg$1") = some 0 ∧ (zm2_L.1[0]?).map (fun f => (f.isStatic, f.slot)) = some (false, 0) := by decide +kernel
theorem zm2_eF1 : zm2_D.constantPool[18]? = some (.fieldref 2 17) ∧ zm2_D.constantPool.nameAndType? 17 = some ("arg$2", "I") ∧ zm2_L.1.findIdx? (·.name == "arg$2") = some 1 ∧ (zm2_L.1[1]?).map (fun f => (f.isStatic, f.slot)) = some (false, 1) := by decide +kernel
theorem zm2_facts {vm : Vm} {d c : ClassId} {dk : Class} (hd : vm.classes[d]? = some dk) (hname : dk.name = "CartelWatch") (h : Lambda.isMade { classPath := fun _ => none } vm d zw_s2 c = true)
    (hO : ∀ o ok, vm.findClass "java/lang/Object" = some o → vm.classes[o]? = some ok → ok.instanceTypes.size = 0) {tT : ClassId} (hT : vm.findClass "CartelWatch$Inquiry" = some tT) : zm_F vm c zm2_B 28 24 27 22 ⟨"CartelWatch", "lambda$file$2", "(IILCartelWatch$Inquiry;)I"⟩ "CartelWatch$Inquiry" [16, 18] := by
  obtain ⟨dk', k, ok, tk, file, cf, object, iface, toy, lay, methods, target, found, hd', hk, hfile, hcf, hobj, -, hok, hlay, hms, ht, htk, hg, -, hrec, -, -, -, -, hpool, hmeth, hfields, hty, hres, -⟩ := Lambda.isMade_spec h
  cases hd.symm.trans hd'
  rw [hname, zm2_file] at hcf
  cases hcf
  have hok0 : ok.instanceTypes = #[] := Array.eq_empty_of_size_eq_zero (hO object ok hobj hok)
  rw [hO object ok hobj hok, zm2_laid] at hlay
  cases hlay
  obtain ⟨b, hb, hsame⟩ := hmeth 1 zm2_M (zm2_second methods hms)
  simp only [Lambda.sameMethod, Bool.and_eq_true, decide_eq_true_eq] at hsame
  obtain ⟨⟨hn, -, hsig, hfl⟩, hcode⟩ := hsame
  have fc := zm2_code
  have ff := zm2_flags
  simp only [Prod.mk.injEq] at ff
  obtain ⟨g0, hg0, hp0⟩ := Option.map_eq_some_iff.mp zm2_eF0.2.2.2
  simp only [Prod.mk.injEq] at hp0
  obtain ⟨g1, hg1, hp1⟩ := Option.map_eq_some_iff.mp zm2_eF1.2.2.2
  simp only [Prod.mk.injEq] at hp1
  cases hfc : zm2_M.code with
  | none => rw [hfc] at fc; cases fc
  | some x =>
    cases hbc : b.code with
    | none => simp [hfc, hbc] at hcode
    | some z =>
      simp only [hfc, hbc, Bool.and_eq_true, decide_eq_true_eq] at hcode
      simp only [hfc, Option.map_some, Option.some.injEq, Prod.mk.injEq] at fc
      refine ⟨k, tk, file, b, z, toy, tT, target, hk, by rw [hrec.1, hname]; rfl, hfile, by rw [hpool.2.1]; exact ⟨zm2_eM.1, zm2_eM.2.2⟩, by simp [Vm.method?, hk, hb], ⟨hbc, ?_, by rw [← hcode.1.1.1.1.2.1]; exact fc.2⟩, ⟨?_, by rw [← hfl]; exact ff.1, by rw [← hsig]; exact ff.2.2⟩, ht, htk, hg,
        ⟨k, hk, hres 28 _ (Lambda.resolvedOf_method zm2_eM.1 zm2_eM.2.1 ht htk zm2_eM.2.2 hg)⟩, ⟨k, hk, hres 24 _ (Lambda.resolvedOf_class zm2_eC.1 zm2_eC.2.2 zm2_eC.2.1 ht)⟩, ⟨hT, ⟨k, hk, hres 22 _ (Lambda.resolvedOf_class zm2_eT.1 zm2_eT.2.2 zm2_eT.2.1 hT)⟩⟩, ?_, by rw [hty.1, hok0, zm2_types]; rfl, hrec.2.1⟩
      · rw [← hcode.1.1.1.1.2.2]
        exact ByteArray.ext fc.1
      · simp [Method.locks, Method.isSynchronized, ← hfl, ff.1, hasFlag, Acc.synchronized]
      · intro j q hj
        rcases j with _ | _ | _
        · simp only [List.getElem?_cons_zero, Option.some.injEq] at hj
          subst hj
          exact ⟨g0, ⟨k, 0, k, hk, hres 16 _ (Lambda.resolvedOf_field zm2_eF0.1 zm2_eF0.2.1 zm2_eF0.2.2.1), hk, hfields 0 _ hg0⟩, hp0.1, hp0.2⟩
        · simp only [List.getElem?_cons_succ, List.getElem?_cons_zero, Option.some.injEq] at hj
          subst hj
          exact ⟨g1, ⟨k, 1, k, hk, hres 18 _ (Lambda.resolvedOf_field zm2_eF1.1 zm2_eF1.2.1 zm2_eF1.2.2.1), hk, hfields 1 _ hg1⟩, hp1.1, hp1.2⟩
        · simp at hj
