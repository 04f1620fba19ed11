/-! a lambda is called through its interface: its class's method calls the static method that holds its body -/
set_option maxRecDepth 100000
section ZML
variable {X : zw_X} {cc : ByteArray} {nL : Nat} {rm : Room} {M : zw_M} {c n pc pc' : Nat} {lv : List (Option Value)} {st : List Value}
set_option maxHeartbeats 1000000 in
theorem zw_callL1 {own : String} (K : zw_K X cc nL own rm) {i f x ci0 index count c' n' : Nat} {a : Int32} {y : MethodName} {bytes : ByteArray} {maxL : Nat} {rc : Room} {Po : Int32 → zw_M → Prop} {x0 : MethodName} {pc0 index0 : Nat} {σ : Lambda.Shape} {bs : ByteArray} {mi ci nt ct q0 : Nat} {rr : vw_C} {fs : List Value}
    (ct9 : zw_C (zw_Xw X) (zw_Xl X) y bytes maxL (some .int) rc [.int a, .ref x] M (zw_pi Po) zw_no) (hi : zw_sites[i]? = some (x0, pc0, index0, σ)) (hσ : σ.iface = zw_yM.cls ∧ σ.name = zw_yM.name ∧ σ.sam.toString = zw_yM.desc)
    (hF : ∀ (U : State) (B : Array Value), zw_T (zw_Xw X) U → (Cond.instantiable "java/lang/Object" 0).before B U = true → zm_F U.vm (zw_k (zw_Xw X) (20 + i)) bs mi ci nt ct y rr.1 [q0])
     (d0 : decode bs 0 = .ok (.aload_n 0, 1)) (d1 : decode bs 1 = .ok (.getfield q0, 3)) (d4 : decode bs 4 = .ok (.aload_n 1, 1)) (d5 : decode bs 5 = .ok (.checkcast ct, 3)) (d8 : decode bs 8 = .ok (.invokestatic mi, 3)) (d11 : decode bs 11 = .ok (.ireturn, 1))
    (hlink : Cond.methodLink own index zw_yM ∈ lw_all) (h2 : Cond.static y ∈ lw_all) (h3 : Cond.initialized y.cls ∈ lw_all) (h4 : Cond.code y bytes maxL (some .int) ∈ lw_all) (hy : y.cls ≠ "java/lang/invoke/MethodHandle" ∧ y.cls ≠ "java/lang/invoke/VarHandle") {sig : MethodDescriptor} (hsig : parseMethodDescriptor y.desc = some sig) (hsn : sig.parameters.length = 2)
    (hcl : zw_cl[ci0]? = some rr) (hx : M x = some (zw_eC ci0 fs)) (hf : M f = some (.inl (.inl (zw_k (zw_Xw X) (20 + i), 1, .inl (fun _ => a))))) (hd : decode cc pc = .ok (.invokeinterface index count, 5)) (hp : pc + 5 = pc') (hW : (st.map fun v => v.category).sum ≤ 8)
    (hR : rc.frames + 2 ≤ rm.frames ∧ 8 + 13 + (maxL + 11) + rc.locals ≤ rm.locals) (hc : c + rc.cells ≤ c' ∧ n + rc.slots ≤ n' ∧ c' ≤ rm.cells ∧ n' ≤ rm.slots)
    (kk : ∀ (r : Int32) (M1 : zw_M), Po r M1 → zw_Z X M1 c' n' pc' lv (.int r :: st)) : zw_Z X M c n pc lv (.ref x :: .ref f :: st) := by
  subst hp
  have hrecv := fun H hH => zw_recv K (H := H) hH hcl hx
  obtain ⟨hx0, hb, hml, hown, hts, hRR, -, hT, hl0⟩ := K
  refine zw_back5 (Po := zw_pi Po) (Px := zw_no) (rc := rc) (rest := st) (a := ([.int a, .ref x] : List Value).toArray) (fun H locs ls hH hS hl => ?_) ⟨hc.1, hc.2.1⟩ (fun v M1 hv => by obtain ⟨r, rfl, hr⟩ := hv; exact kk r M1 hr) (fun E M1 h => h.elim)
  obtain ⟨cellx, hcx, hox, hfx⟩ := hrecv H hH
  obtain ⟨p, l, e, R, s, m, args, below, meth, c0, Q9, w⟩ := X
  dsimp only [zw_Xw, zw_Xl] at *
  subst hRR
  intro T hT0 Xs
  have hz := zw_pre (X := (p, l, e, R, s, m, args, below, meth, c0, Q9, w)) hT hH hS (av := [.int a, .ref x])
  dsimp only at hz
  obtain ⟨hIf, hlam⟩ := hT.2.2.2.2.2.2.2.1.2.2
  obtain ⟨r0, r, hn, hrm, hstR, hsigR⟩ := Cond.declares_spec hIf.1
  obtain ⟨cL, kL, r1, hcL, hkL, hiL, hfoundL, hn1⟩ := Cond.interfaceMethod_spec hIf.2
  cases hn.symm.trans hn1
  have hr0cls : r0.cls = cL := Option.some.inj ((findClass_of_methodNamed hn).symm.trans hcL)
  obtain ⟨hnameR, hdescR⟩ := name_of_methodNamed hn hrm
  obtain ⟨m0, k0, cf0, i0, p0, z1, z2, z3, z4, z5, hmade, hcan⟩ := hlam i _ hi
  obtain ⟨-, -, -, -, -, -, -, iface', -, -, -, -, found, -, -, -, -, -, hi', -, -, -, -, -, -, hfound', -, -, -, -, -, -, -, -, -, -, hsel⟩ := Lambda.isMade_spec hmade
  rw [hσ.1] at hi'
  cases hcL.symm.trans hi'
  have hfr : found = r0 := by
    have h1 : s.methodFound? zw_yM.cls zw_yM.name zw_yM.desc = some r0 := hfoundL
    simp only [State.methodFound?, hcL, hkL, hiL, Option.bind_eq_bind, Option.bind_some] at h1
    rw [hσ.2.1, hσ.2.2] at hfound'
    rw [hfound'] at h1
    exact Option.some.inj h1
  subst hfr
  obtain ⟨i2, hi2, hasg, hway⟩ := State.lambdaCallable_spec hcan
  rw [hσ.1] at hi2
  cases hcL.symm.trans hi2
  obtain ⟨kK, -, -, methk0, -, -, -, -, hkK, -, -, -, hmk0, -, ⟨-, hfl0, -⟩, -⟩ := hF s args hT (hts _ q900)
  have hcf0 : H[f]? = some ({ cls := zw_k (w) (20 + i), slots := #[.int a], vm := .none } : Cell) := by
    obtain ⟨ws, ar, g1, g2, g3⟩ := id hH
    obtain ⟨q0, hq0⟩ := g3.1 f _ hf
    exact (show H[f]? = some (vp_cell _ _) from g1 q0 _ hq0).trans (congrArg some (zm_cell1 _ a))
  obtain ⟨vm₁, X₁, hstep₁⟩ := Xs.invokeinterface hx0 hown (hts _ hlink) hn hrm hstR (by rw [hr0cls]; exact hkL) hiL ⟨by decide, by decide⟩ (a := f) (cell := ({ cls := zw_k (w) (20 + i), slots := #[.int a], vm := .none } : Cell)) (kcell := kK) (by rw [hT0]; exact hcf0) (fun z h => nomatch h) hkK (by rw [hr0cls]; exact hasg)
    (by rw [Launch.admits_selectMethod Xs.admits]; exact hsel) hmk0 (by rw [hnameR, hdescR]; rw [hσ.2.1, hσ.2.2] at hway; exact hway) (by rw [hfl0]; decide) (by simp [Method.isAbstract, hfl0, hasFlag, Acc.abstract])
    (g := F0 m pc ls (.ref x :: .ref f :: st)) rfl (argsL := [.ref x]) (rest := st) (by rw [show parseMethodDescriptor zw_yM.desc = some ⟨[.object "java/lang/Object"], some .int⟩ from by decide +kernel] at hsigR; rw [← Option.some.inj hsigR]; rfl) rfl (by rw [hb]; exact hd)
  obtain ⟨-, hT1, hH1⟩ := hz (T.setVm vm₁) hT0 X₁.warmed
  have hO1 : (Cond.instantiable "java/lang/Object" 0).before #[] (T.setVm vm₁) = true := word_at X₁.warmed (Or.inl (by rfl)) (hts _ q900)
  obtain ⟨kK1, tk, file, methk, ck, toy, tT, t, hkK1, hkn1, hfile, ⟨hpM, hpN⟩, hmk, ⟨hck, hcb, hcm⟩, ⟨hlk1, hfl1, hret1⟩, htoy, htk, hlook, hready, hclsR, ⟨hTf, hctr⟩, hfields, -⟩ := hF (T.setVm vm₁) #[] hT1 hO1

  obtain ⟨g0, hg0, hs0, hq0⟩ := hfields 0 _ rfl
  generalize hgj : F0 m pc ls st = gj
  have hgm : gj.method = m := by rw [← hgj]
  have hgs : gj.locals.size = c0.maxLocals := by rw [← hgj]; exact hl.1
  have hgd : decode c0.code gj.pc = .ok (.invokeinterface index count, 5) := by rw [← hgj, hb]; exact hd
  have hgw : 2 * gj.monitorRoom + (gj.stack.map fun v => v.category).sum ≤ 8 := by rw [← hgj]; show 2 * 0 + (st.map fun v => v.category).sum ≤ 8; omega
  obtain ⟨Y₀, hin⟩ := X₁.into hgm hgs hgd (mk := ⟨zw_k w (20 + i), 1⟩) #[.ref f, .ref x] (R' := { frames := rc.frames + 1, cells := rc.cells, slots := rc.slots, locals := maxL + 11 + rc.locals }) hmk hck hlk1 (State.plainMethod.of_name (fun k' hk' => by cases hkK1.symm.trans hk'; rw [hkn1]; decide)) (by show rc.frames + 1 + 1 ≤ _; exact hR.1) (by rw [hcm]; show _ + (2 + 11) + (maxL + 11 + rc.locals) ≤ _; omega) (by show c + rc.cells ≤ _; omega) (by show n + rc.slots ≤ _; omega)
  generalize hU0 : ((T.setVm vm₁).setTop gj).pushFrame (.java (entryFrame ⟨zw_k w (20 + i), 1⟩ #[.ref f, .ref x] ck.maxLocals)) = U₀ at Y₀ hin
  have hvm : U₀.vm = vm₁ := by rw [← hU0]; rfl
  have hheap : U₀.heap = H := by rw [← hU0]; exact hT0
  have hcf : U₀.heap[f]? = some ({ cls := zw_k (w) (20 + i), slots := #[.int a], vm := .none } : Cell) := by rw [hheap]; exact hcf0
  have hcx : U₀.heap[x]? = some cellx := by rw [hheap]; exact hcx
  have hox : ∀ k, cellx.vm ≠ .statics k := fun k h => by rw [h] at hox; cases hox
  have hctr : U₀.vm.classReady (zw_k w (20 + i)) ct tT := by rw [hvm]; exact hctr
  have hclx : cellx.cls = tT := by
    have h9 : (T.setVm vm₁).vm.findClass rr.1 = some cellx.cls := by rw [X₁.warmed.alike.findClass]; exact hfx
    exact Option.some.inj (h9.symm.trans hTf)
  obtain ⟨kx, hkx⟩ : ∃ kx, U₀.vm.classes[cellx.cls]? = some kx := by
    obtain ⟨e1, kC, e2, -⟩ := (hT1.1.1 ci0 _ hcl).2
    have : tT = (zw_D w).1 ci0 := Option.some.inj (hTf.symm.trans e1)
    exact ⟨kC, by rw [hvm, hclx, this]; exact e2⟩
  have hg0 : U₀.vm.fieldReady (zw_k w (20 + i)) q0 (zw_k w (20 + i)) g0 := by rw [hvm]; exact hg0
  have k0 : Steps p.tables e (.java gj :: below) (U₀.setTop { method := ⟨zw_k (w) (20 + i), 1⟩, pc := 0, locals := #[.val (.ref f), .val (.ref x)], stack := [], locked := none }) (U₀.setTop { method := ⟨zw_k (w) (20 + i), 1⟩, pc := 0, locals := #[.val (.ref f), .val (.ref x)], stack := [], locked := none }) := Steps.refl _
  have k1 : Steps p.tables e (.java gj :: below) (U₀.setTop { method := ⟨zw_k (w) (20 + i), 1⟩, pc := 0, locals := #[.val (.ref f), .val (.ref x)], stack := [], locked := none }) (U₀.setTop { method := ⟨zw_k (w) (20 + i), 1⟩, pc := 1, locals := #[.val (.ref f), .val (.ref x)], stack := [.ref f], locked := none }) := by
    refine k0.trans ?_
    jvm_step Y₀.here [hx0, hcb, d0, Value.isRef]
    exact Steps.refl _
  have k2 : Steps p.tables e (.java gj :: below) (U₀.setTop { method := ⟨zw_k (w) (20 + i), 1⟩, pc := 0, locals := #[.val (.ref f), .val (.ref x)], stack := [], locked := none }) (U₀.setTop { method := ⟨zw_k (w) (20 + i), 1⟩, pc := 4, locals := #[.val (.ref f), .val (.ref x)], stack := [.int a], locked := none }) := by
    refine k1.trans ?_
    jvm_step Y₀.here [hx0, hcb, d1, getfield.wp_ready (e := e) (s := U₀) (c := zw_k (w) (20 + i)) (field := g0) (a := f) (rest := []) (cell := ({ cls := zw_k (w) (20 + i), slots := #[.int a], vm := .none } : Cell)) (v := .int a) (f := { method := ⟨zw_k (w) (20 + i), 1⟩, pc := 1, locals := #[.val (.ref f), .val (.ref x)], stack := [.ref f], locked := none }) Y₀.here.top hg0 hs0 rfl hcf (fun h => nomatch h) (by rw [hq0]; rfl)]
    exact Steps.refl _
  have k3 : Steps p.tables e (.java gj :: below) (U₀.setTop { method := ⟨zw_k (w) (20 + i), 1⟩, pc := 0, locals := #[.val (.ref f), .val (.ref x)], stack := [], locked := none }) (U₀.setTop { method := ⟨zw_k (w) (20 + i), 1⟩, pc := 5, locals := #[.val (.ref f), .val (.ref x)], stack := [.ref x, .int a], locked := none }) := by
    refine k2.trans ?_
    jvm_step Y₀.here [hx0, hcb, d4, Value.isRef]
    exact Steps.refl _
  have k4 : Steps p.tables e (.java gj :: below) (U₀.setTop { method := ⟨zw_k (w) (20 + i), 1⟩, pc := 0, locals := #[.val (.ref f), .val (.ref x)], stack := [], locked := none }) (U₀.setTop { method := ⟨zw_k (w) (20 + i), 1⟩, pc := 8, locals := #[.val (.ref f), .val (.ref x)], stack := [.ref x, .int a], locked := none }) := by
    refine k3.trans ?_
    jvm_step Y₀.here [hx0, hcb, d5, checkcast.wp_ready (e := e) (s := U₀) (c := tT) (x := .ref x) (rest := [.int a]) (f := { method := ⟨zw_k (w) (20 + i), 1⟩, pc := 5, locals := #[.val (.ref f), .val (.ref x)], stack := [.ref x, .int a], locked := none }) Y₀.here.top hctr rfl]
    exact ⟨cellx, hcx, hox, kx, hkx, kx, by rw [← hclx]; exact hkx, by rw [if_pos (by rw [hclx]; exact Vm.assignable_self _ _)]; exact Steps.refl _⟩

  subst hvm
  have hWU : s.WarmedH U₀.vm := X₁.warmed
  have wcode : (Cond.code y bytes maxL (some .int)).before #[] U₀ = true := word_at hWU (Or.inl rfl) (hts _ h4)
  have wst : (Cond.static y).before #[] U₀ = true := word_at hWU (Or.inl rfl) (hts _ h2)
  have wini : (Cond.initialized y.cls).before #[] U₀ = true := word_at hWU (Or.inl rfl) (hts _ h3)
  cases hnB : U₀.methodNamed? y with
  | none => simp [Cond.before, Cond.holds, Cond.value, hnB] at wcode
  | some mB =>
  obtain ⟨methB, cB, hmB, -, -, -, -, -, -, hsigB⟩ := Cond.code_spec hnB wcode
  have hstaticB : methB.isStatic = true := Cond.static_spec hnB hmB wst
  have hfT : U₀.vm.findClass y.cls = some mB.cls := findClass_of_methodNamed hnB
  have htoy' : U₀.vm.findClass y.cls = some toy := htoy
  cases htoy'.symm.trans hfT
  have htk' : U₀.vm.classes[mB.cls]? = some tk := htk
  have hinitK : tk.init = .initialized := Cond.initialized_spec hfT htk' wini
  obtain ⟨kT', hkT', hnameT⟩ := className_of_methodNamed hnB
  cases htk'.symm.trans hkT'
  have htB : t = mB := by
    have h1 : U₀.methodFound? y.cls y.name y.desc = some mB := State.methodFound?_of_named hnB hy
    simp only [State.methodFound?, hfT, htk', Option.bind_eq_bind, Option.bind_some] at h1
    have hlook' : ((methodIn mB.cls y.name y.desc tk.isInterface none).ask { classPath := fun _ => none } U₀.vm).1 = .ok t := hlook
    rw [hlook'] at h1
    exact Option.some.inj h1
  subst htB
  have hsp : ∀ z : Method, signaturePolymorphic tk z = false := fun z => by simp [signaturePolymorphic, hnameT, hy.1, hy.2]
  obtain ⟨bb, hmem⟩ := memberRef_ask' (e := e) (vm := U₀.vm) (d := zw_k w (20 + i)) (index := mi) hkK1 hfile (Or.inl hpM) hpN
  have hpr : plainRef U₀ e (zw_k w (20 + i)) mi := ⟨ci, _, _, bb, t.cls, tk, hmem, hclsR, htk', by simp [hsp]⟩
  have hbk := vx_back (R := { frames := rc.frames + 1, cells := rc.cells, slots := rc.slots, locals := maxL + 11 + rc.locals }) (p := p) (e := e) (below := .java gj :: below) (s := (T.setVm U₀.vm).calling gj ⟨zw_k w (20 + i), 1⟩ #[.ref f, .ref x]) (sargs := #[.ref f, .ref x]) (len := 3) (W9 := 0) ct9 zw_blind rfl rfl (Nat.le_refl _) (by show 0 + (maxL + 11) + rc.locals ≤ maxL + 11 + rc.locals; omega)
    (fun q hq a' U hW => pay_in hts (lw_meth h4) q hq a' U (State.WarmedH.trans hWU hW)) List.mem_cons_self (fun a' U hW => word_at (State.WarmedH.trans hWU hW) (Or.inl rfl) (hts _ h3))
  have hB := hbk ⟨zw_k w (20 + i), 1⟩ methk ck ⟨U₀, [], 0, 0⟩ { method := ⟨zw_k (w) (20 + i), 1⟩, pc := 8, locals := #[.val (.ref f), .val (.ref x)], stack := [], locked := none } (.invokestatic mi) t #[.int a, .ref x] Y₀ rfl (by rw [hcm]; rfl) (by rw [hcb]; exact d8) (Nat.le_refl _) hnB ⟨by show 0 + rc.cells ≤ rc.cells; omega, by show 0 + rc.slots ≤ rc.slots; omega, hz U₀ hheap hWU⟩
  rcases hB with ⟨v, ⟨U₁, L₁, c₁, n₁⟩, Y₁, hpost, hsteps⟩ | ⟨q, B, -, ⟨_, _, _, _, _, _, -, -, ⟨M9, h9, -⟩, -⟩, -⟩
  · dsimp only [Pt.U, Pt.locs, Pt.cells, Pt.slots] at Y₁ hpost hsteps
    obtain ⟨g9, mk9, t9, L9, e1, e2, ⟨v9, M1, ho, ⟨r, hv9, hPo⟩, hH9, hF9⟩, e3, e4, e5, e6⟩ := hpost
    dsimp only [Pt.U, Pt.locs, Pt.cells, Pt.slots] at e1 e2 e3 e4 e5 e6
    cases ho
    subst hv9
    have kS : Steps p.tables e (.java gj :: below) (U₀.setTop { method := ⟨zw_k (w) (20 + i), 1⟩, pc := 0, locals := #[.val (.ref f), .val (.ref x)], stack := [], locked := none }) (doInvoke e (U₀.setTop { method := ⟨zw_k (w) (20 + i), 1⟩, pc := 8, locals := #[.val (.ref f), .val (.ref x)], stack := [], locked := none }) [] t #[.int a, .ref x]).1 := by
      refine k4.trans ?_
      jvm_step Y₀.here [hx0, hcb, d8, invokestatic.wp_ready (e := e) (s := U₀) (m := t) (k := tk) (meth := methB) (args := [.int a, .ref x]) (rest := []) (f := { method := ⟨zw_k (w) (20 + i), 1⟩, pc := 8, locals := #[.val (.ref f), .val (.ref x)], stack := [.ref x, .int a], locked := none }) Y₀.here.top hpr hready htk' hmB (hsp _) hstaticB hinitK (by rw [← Option.some.inj (hsig.symm.trans hsigB)]; exact hsn.symm) rfl]
      intro acts
      rw [doInvoke_state]
      exact Steps.refl _
    obtain ⟨fs9, hleave, -, hended, hWe, hsame⟩ := Y₁.leave (v := some (.int r)) (fun h => by rw [hret1] at h; cases h) hlk1
    have hm' : U₁.vm.method? ⟨zw_k w (20 + i), 1⟩ = some methk := Y₁.method'
    have kR : Steps p.tables e (.java gj :: below) (U₁.setTop { method := ⟨zw_k (w) (20 + i), 1⟩, pc := 11, locals := #[.val (.ref f), .val (.ref x)], stack := [.int r], locked := none }) (U₁.setFrames fs9) := by
      jvm_step Y₁.here [Y₁.here.top, hx0, hcb, d11, hm', hret1, narrow]
      first | (intro acts; rw [hleave _ acts rfl rfl rfl]) | rw [hleave _ _ rfl rfl rfl]
      exact Steps.refl _
    have kA := (kS.trans hsteps).trans kR
    obtain ⟨T', X', hW', -, ht⟩ := X₁.outOf hgm hgd hended hWe hsame
    refine Or.inl ⟨some (.int r), U₀.calling g9 mk9 #[.int a, .ref x], t9, T', L₁, hheap, ?_, ?_, ?_, ?_, ⟨_, M1, rfl, ⟨r, rfl, hPo⟩, hH9, hF9⟩, fun target hg => ?_⟩
    · rw [show rc.cells = c₁ by omega, show rc.slots = n₁ by omega]; exact X'
    · rw [e3]; simpa using e4
    · exact ((congrArg State.heap ht).symm.trans (show (U₁.setFrames fs9).heap = t9.heap from e1))
    · exact ((congrArg State.vm ht).symm.trans (show (U₁.setFrames fs9).vm = t9.vm from e2))
    · refine hstep₁ _ (fun acts => ?_)
      show Steps _ _ _ (doInvoke e ((T.setVm U₀.vm).setTop (F0 m pc ls st)) acts ⟨zw_k w (20 + i), 1⟩ #[.ref f, .ref x]).1 _
      rw [hgj, hin acts, hcm]
      refine (Steps.weaken (mid := [.java gj]) kA).trans ?_
      rw [ht, ← hgj]
      exact hg
  · exact h9.elim
set_option maxHeartbeats 1000000 in
theorem zw_callL2 {own : String} (K : zw_K X cc nL own rm) {i f x ci0 index count c' n' : Nat} {a b : Int32} {y : MethodName} {bytes : ByteArray} {maxL : Nat} {rc : Room} {Po : Int32 → zw_M → Prop} {x0 : MethodName} {pc0 index0 : Nat} {σ : Lambda.Shape} {bs : ByteArray} {mi ci nt ct q0 q1 : Nat} {rr : vw_C} {fs : List Value}
    (ct9 : zw_C (zw_Xw X) (zw_Xl X) y bytes maxL (some .int) rc [.int a, .int b, .ref x] M (zw_pi Po) zw_no) (hi : zw_sites[i]? = some (x0, pc0, index0, σ)) (hσ : σ.iface = zw_yM.cls ∧ σ.name = zw_yM.name ∧ σ.sam.toString = zw_yM.desc)
    (hF : ∀ (U : State) (B : Array Value), zw_T (zw_Xw X) U → (Cond.instantiable "java/lang/Object" 0).before B U = true → zm_F U.vm (zw_k (zw_Xw X) (20 + i)) bs mi ci nt ct y rr.1 [q0, q1])
     (d0 : decode bs 0 = .ok (.aload_n 0, 1)) (d1 : decode bs 1 = .ok (.getfield q0, 3)) (d4 : decode bs 4 = .ok (.aload_n 0, 1)) (d5 : decode bs 5 = .ok (.getfield q1, 3)) (d8 : decode bs 8 = .ok (.aload_n 1, 1)) (d9 : decode bs 9 = .ok (.checkcast ct, 3)) (d12 : decode bs 12 = .ok (.invokestatic mi, 3)) (d15 : decode bs 15 = .ok (.ireturn, 1))
    (hlink : Cond.methodLink own index zw_yM ∈ lw_all) (h2 : Cond.static y ∈ lw_all) (h3 : Cond.initialized y.cls ∈ lw_all) (h4 : Cond.code y bytes maxL (some .int) ∈ lw_all) (hy : y.cls ≠ "java/lang/invoke/MethodHandle" ∧ y.cls ≠ "java/lang/invoke/VarHandle") {sig : MethodDescriptor} (hsig : parseMethodDescriptor y.desc = some sig) (hsn : sig.parameters.length = 3)
    (hcl : zw_cl[ci0]? = some rr) (hx : M x = some (zw_eC ci0 fs)) (hf : M f = some (.inl (.inl (zw_k (zw_Xw X) (20 + i), 2, .inl (fun j => if j = 0 then a else b))))) (hd : decode cc pc = .ok (.invokeinterface index count, 5)) (hp : pc + 5 = pc') (hW : (st.map fun v => v.category).sum ≤ 8)
    (hR : rc.frames + 2 ≤ rm.frames ∧ 8 + 13 + (maxL + 11) + rc.locals ≤ rm.locals) (hc : c + rc.cells ≤ c' ∧ n + rc.slots ≤ n' ∧ c' ≤ rm.cells ∧ n' ≤ rm.slots)
    (kk : ∀ (r : Int32) (M1 : zw_M), Po r M1 → zw_Z X M1 c' n' pc' lv (.int r :: st)) : zw_Z X M c n pc lv (.ref x :: .ref f :: st) := by
  subst hp
  have hrecv := fun H hH => zw_recv K (H := H) hH hcl hx
  obtain ⟨hx0, hb, hml, hown, hts, hRR, -, hT, hl0⟩ := K
  refine zw_back5 (Po := zw_pi Po) (Px := zw_no) (rc := rc) (rest := st) (a := ([.int a, .int b, .ref x] : List Value).toArray) (fun H locs ls hH hS hl => ?_) ⟨hc.1, hc.2.1⟩ (fun v M1 hv => by obtain ⟨r, rfl, hr⟩ := hv; exact kk r M1 hr) (fun E M1 h => h.elim)
  obtain ⟨cellx, hcx, hox, hfx⟩ := hrecv H hH
  obtain ⟨p, l, e, R, s, m, args, below, meth, c0, Q9, w⟩ := X
  dsimp only [zw_Xw, zw_Xl] at *
  subst hRR
  intro T hT0 Xs
  have hz := zw_pre (X := (p, l, e, R, s, m, args, below, meth, c0, Q9, w)) hT hH hS (av := [.int a, .int b, .ref x])
  dsimp only at hz
  obtain ⟨hIf, hlam⟩ := hT.2.2.2.2.2.2.2.1.2.2
  obtain ⟨r0, r, hn, hrm, hstR, hsigR⟩ := Cond.declares_spec hIf.1
  obtain ⟨cL, kL, r1, hcL, hkL, hiL, hfoundL, hn1⟩ := Cond.interfaceMethod_spec hIf.2
  cases hn.symm.trans hn1
  have hr0cls : r0.cls = cL := Option.some.inj ((findClass_of_methodNamed hn).symm.trans hcL)
  obtain ⟨hnameR, hdescR⟩ := name_of_methodNamed hn hrm
  obtain ⟨m0, k0, cf0, i0, p0, z1, z2, z3, z4, z5, hmade, hcan⟩ := hlam i _ hi
  obtain ⟨-, -, -, -, -, -, -, iface', -, -, -, -, found, -, -, -, -, -, hi', -, -, -, -, -, -, hfound', -, -, -, -, -, -, -, -, -, -, hsel⟩ := Lambda.isMade_spec hmade
  rw [hσ.1] at hi'
  cases hcL.symm.trans hi'
  have hfr : found = r0 := by
    have h1 : s.methodFound? zw_yM.cls zw_yM.name zw_yM.desc = some r0 := hfoundL
    simp only [State.methodFound?, hcL, hkL, hiL, Option.bind_eq_bind, Option.bind_some] at h1
    rw [hσ.2.1, hσ.2.2] at hfound'
    rw [hfound'] at h1
    exact Option.some.inj h1
  subst hfr
  obtain ⟨i2, hi2, hasg, hway⟩ := State.lambdaCallable_spec hcan
  rw [hσ.1] at hi2
  cases hcL.symm.trans hi2
  obtain ⟨kK, -, -, methk0, -, -, -, -, hkK, -, -, -, hmk0, -, ⟨-, hfl0, -⟩, -⟩ := hF s args hT (hts _ q900)
  have hcf0 : H[f]? = some ({ cls := zw_k (w) (20 + i), slots := #[.int a, .int b], vm := .none } : Cell) := by
    obtain ⟨ws, ar, g1, g2, g3⟩ := id hH
    obtain ⟨q0, hq0⟩ := g3.1 f _ hf
    exact (show H[f]? = some (vp_cell _ _) from g1 q0 _ hq0).trans (congrArg some (zm_cell2 _ a b))
  obtain ⟨vm₁, X₁, hstep₁⟩ := Xs.invokeinterface hx0 hown (hts _ hlink) hn hrm hstR (by rw [hr0cls]; exact hkL) hiL ⟨by decide, by decide⟩ (a := f) (cell := ({ cls := zw_k (w) (20 + i), slots := #[.int a, .int b], vm := .none } : Cell)) (kcell := kK) (by rw [hT0]; exact hcf0) (fun z h => nomatch h) hkK (by rw [hr0cls]; exact hasg)
    (by rw [Launch.admits_selectMethod Xs.admits]; exact hsel) hmk0 (by rw [hnameR, hdescR]; rw [hσ.2.1, hσ.2.2] at hway; exact hway) (by rw [hfl0]; decide) (by simp [Method.isAbstract, hfl0, hasFlag, Acc.abstract])
    (g := F0 m pc ls (.ref x :: .ref f :: st)) rfl (argsL := [.ref x]) (rest := st) (by rw [show parseMethodDescriptor zw_yM.desc = some ⟨[.object "java/lang/Object"], some .int⟩ from by decide +kernel] at hsigR; rw [← Option.some.inj hsigR]; rfl) rfl (by rw [hb]; exact hd)
  obtain ⟨-, hT1, hH1⟩ := hz (T.setVm vm₁) hT0 X₁.warmed
  have hO1 : (Cond.instantiable "java/lang/Object" 0).before #[] (T.setVm vm₁) = true := word_at X₁.warmed (Or.inl (by rfl)) (hts _ q900)
  obtain ⟨kK1, tk, file, methk, ck, toy, tT, t, hkK1, hkn1, hfile, ⟨hpM, hpN⟩, hmk, ⟨hck, hcb, hcm⟩, ⟨hlk1, hfl1, hret1⟩, htoy, htk, hlook, hready, hclsR, ⟨hTf, hctr⟩, hfields, -⟩ := hF (T.setVm vm₁) #[] hT1 hO1

  obtain ⟨g0, hg0, hs0, hq0⟩ := hfields 0 _ rfl
  obtain ⟨g1, hg1, hs1, hq1⟩ := hfields 1 _ rfl
  generalize hgj : F0 m pc ls st = gj
  have hgm : gj.method = m := by rw [← hgj]
  have hgs : gj.locals.size = c0.maxLocals := by rw [← hgj]; exact hl.1
  have hgd : decode c0.code gj.pc = .ok (.invokeinterface index count, 5) := by rw [← hgj, hb]; exact hd
  have hgw : 2 * gj.monitorRoom + (gj.stack.map fun v => v.category).sum ≤ 8 := by rw [← hgj]; show 2 * 0 + (st.map fun v => v.category).sum ≤ 8; omega
  obtain ⟨Y₀, hin⟩ := X₁.into hgm hgs hgd (mk := ⟨zw_k w (20 + i), 1⟩) #[.ref f, .ref x] (R' := { frames := rc.frames + 1, cells := rc.cells, slots := rc.slots, locals := maxL + 11 + rc.locals }) hmk hck hlk1 (State.plainMethod.of_name (fun k' hk' => by cases hkK1.symm.trans hk'; rw [hkn1]; decide)) (by show rc.frames + 1 + 1 ≤ _; exact hR.1) (by rw [hcm]; show _ + (2 + 11) + (maxL + 11 + rc.locals) ≤ _; omega) (by show c + rc.cells ≤ _; omega) (by show n + rc.slots ≤ _; omega)
  generalize hU0 : ((T.setVm vm₁).setTop gj).pushFrame (.java (entryFrame ⟨zw_k w (20 + i), 1⟩ #[.ref f, .ref x] ck.maxLocals)) = U₀ at Y₀ hin
  have hvm : U₀.vm = vm₁ := by rw [← hU0]; rfl
  have hheap : U₀.heap = H := by rw [← hU0]; exact hT0
  have hcf : U₀.heap[f]? = some ({ cls := zw_k (w) (20 + i), slots := #[.int a, .int b], vm := .none } : Cell) := by rw [hheap]; exact hcf0
  have hcx : U₀.heap[x]? = some cellx := by rw [hheap]; exact hcx
  have hox : ∀ k, cellx.vm ≠ .statics k := fun k h => by rw [h] at hox; cases hox
  have hctr : U₀.vm.classReady (zw_k w (20 + i)) ct tT := by rw [hvm]; exact hctr
  have hclx : cellx.cls = tT := by
    have h9 : (T.setVm vm₁).vm.findClass rr.1 = some cellx.cls := by rw [X₁.warmed.alike.findClass]; exact hfx
    exact Option.some.inj (h9.symm.trans hTf)
  obtain ⟨kx, hkx⟩ : ∃ kx, U₀.vm.classes[cellx.cls]? = some kx := by
    obtain ⟨e1, kC, e2, -⟩ := (hT1.1.1 ci0 _ hcl).2
    have : tT = (zw_D w).1 ci0 := Option.some.inj (hTf.symm.trans e1)
    exact ⟨kC, by rw [hvm, hclx, this]; exact e2⟩
  have hg0 : U₀.vm.fieldReady (zw_k w (20 + i)) q0 (zw_k w (20 + i)) g0 := by rw [hvm]; exact hg0
  have hg1 : U₀.vm.fieldReady (zw_k w (20 + i)) q1 (zw_k w (20 + i)) g1 := by rw [hvm]; exact hg1
  have k0 : Steps p.tables e (.java gj :: below) (U₀.setTop { method := ⟨zw_k (w) (20 + i), 1⟩, pc := 0, locals := #[.val (.ref f), .val (.ref x)], stack := [], locked := none }) (U₀.setTop { method := ⟨zw_k (w) (20 + i), 1⟩, pc := 0, locals := #[.val (.ref f), .val (.ref x)], stack := [], locked := none }) := Steps.refl _
  have k1 : Steps p.tables e (.java gj :: below) (U₀.setTop { method := ⟨zw_k (w) (20 + i), 1⟩, pc := 0, locals := #[.val (.ref f), .val (.ref x)], stack := [], locked := none }) (U₀.setTop { method := ⟨zw_k (w) (20 + i), 1⟩, pc := 1, locals := #[.val (.ref f), .val (.ref x)], stack := [.ref f], locked := none }) := by
    refine k0.trans ?_
    jvm_step Y₀.here [hx0, hcb, d0, Value.isRef]
    exact Steps.refl _
  have k2 : Steps p.tables e (.java gj :: below) (U₀.setTop { method := ⟨zw_k (w) (20 + i), 1⟩, pc := 0, locals := #[.val (.ref f), .val (.ref x)], stack := [], locked := none }) (U₀.setTop { method := ⟨zw_k (w) (20 + i), 1⟩, pc := 4, locals := #[.val (.ref f), .val (.ref x)], stack := [.int a], locked := none }) := by
    refine k1.trans ?_
    jvm_step Y₀.here [hx0, hcb, d1, getfield.wp_ready (e := e) (s := U₀) (c := zw_k (w) (20 + i)) (field := g0) (a := f) (rest := []) (cell := ({ cls := zw_k (w) (20 + i), slots := #[.int a, .int b], vm := .none } : Cell)) (v := .int a) (f := { method := ⟨zw_k (w) (20 + i), 1⟩, pc := 1, locals := #[.val (.ref f), .val (.ref x)], stack := [.ref f], locked := none }) Y₀.here.top hg0 hs0 rfl hcf (fun h => nomatch h) (by rw [hq0]; rfl)]
    exact Steps.refl _
  have k3 : Steps p.tables e (.java gj :: below) (U₀.setTop { method := ⟨zw_k (w) (20 + i), 1⟩, pc := 0, locals := #[.val (.ref f), .val (.ref x)], stack := [], locked := none }) (U₀.setTop { method := ⟨zw_k (w) (20 + i), 1⟩, pc := 5, locals := #[.val (.ref f), .val (.ref x)], stack := [.ref f, .int a], locked := none }) := by
    refine k2.trans ?_
    jvm_step Y₀.here [hx0, hcb, d4, Value.isRef]
    exact Steps.refl _
  have k4 : Steps p.tables e (.java gj :: below) (U₀.setTop { method := ⟨zw_k (w) (20 + i), 1⟩, pc := 0, locals := #[.val (.ref f), .val (.ref x)], stack := [], locked := none }) (U₀.setTop { method := ⟨zw_k (w) (20 + i), 1⟩, pc := 8, locals := #[.val (.ref f), .val (.ref x)], stack := [.int b, .int a], locked := none }) := by
    refine k3.trans ?_
    jvm_step Y₀.here [hx0, hcb, d5, getfield.wp_ready (e := e) (s := U₀) (c := zw_k (w) (20 + i)) (field := g1) (a := f) (rest := [.int a]) (cell := ({ cls := zw_k (w) (20 + i), slots := #[.int a, .int b], vm := .none } : Cell)) (v := .int b) (f := { method := ⟨zw_k (w) (20 + i), 1⟩, pc := 5, locals := #[.val (.ref f), .val (.ref x)], stack := [.ref f, .int a], locked := none }) Y₀.here.top hg1 hs1 rfl hcf (fun h => nomatch h) (by rw [hq1]; rfl)]
    exact Steps.refl _
  have k5 : Steps p.tables e (.java gj :: below) (U₀.setTop { method := ⟨zw_k (w) (20 + i), 1⟩, pc := 0, locals := #[.val (.ref f), .val (.ref x)], stack := [], locked := none }) (U₀.setTop { method := ⟨zw_k (w) (20 + i), 1⟩, pc := 9, locals := #[.val (.ref f), .val (.ref x)], stack := [.ref x, .int b, .int a], locked := none }) := by
    refine k4.trans ?_
    jvm_step Y₀.here [hx0, hcb, d8, Value.isRef]
    exact Steps.refl _
  have k6 : Steps p.tables e (.java gj :: below) (U₀.setTop { method := ⟨zw_k (w) (20 + i), 1⟩, pc := 0, locals := #[.val (.ref f), .val (.ref x)], stack := [], locked := none }) (U₀.setTop { method := ⟨zw_k (w) (20 + i), 1⟩, pc := 12, locals := #[.val (.ref f), .val (.ref x)], stack := [.ref x, .int b, .int a], locked := none }) := by
    refine k5.trans ?_
    jvm_step Y₀.here [hx0, hcb, d9, checkcast.wp_ready (e := e) (s := U₀) (c := tT) (x := .ref x) (rest := [.int b, .int a]) (f := { method := ⟨zw_k (w) (20 + i), 1⟩, pc := 9, locals := #[.val (.ref f), .val (.ref x)], stack := [.ref x, .int b, .int a], locked := none }) Y₀.here.top hctr rfl]
    exact ⟨cellx, hcx, hox, kx, hkx, kx, by rw [← hclx]; exact hkx, by rw [if_pos (by rw [hclx]; exact Vm.assignable_self _ _)]; exact Steps.refl _⟩

  subst hvm
  have hWU : s.WarmedH U₀.vm := X₁.warmed
  have wcode : (Cond.code y bytes maxL (some .int)).before #[] U₀ = true := word_at hWU (Or.inl rfl) (hts _ h4)
  have wst : (Cond.static y).before #[] U₀ = true := word_at hWU (Or.inl rfl) (hts _ h2)
  have wini : (Cond.initialized y.cls).before #[] U₀ = true := word_at hWU (Or.inl rfl) (hts _ h3)
  cases hnB : U₀.methodNamed? y with
  | none => simp [Cond.before, Cond.holds, Cond.value, hnB] at wcode
  | some mB =>
  obtain ⟨methB, cB, hmB, -, -, -, -, -, -, hsigB⟩ := Cond.code_spec hnB wcode
  have hstaticB : methB.isStatic = true := Cond.static_spec hnB hmB wst
  have hfT : U₀.vm.findClass y.cls = some mB.cls := findClass_of_methodNamed hnB
  have htoy' : U₀.vm.findClass y.cls = some toy := htoy
  cases htoy'.symm.trans hfT
  have htk' : U₀.vm.classes[mB.cls]? = some tk := htk
  have hinitK : tk.init = .initialized := Cond.initialized_spec hfT htk' wini
  obtain ⟨kT', hkT', hnameT⟩ := className_of_methodNamed hnB
  cases htk'.symm.trans hkT'
  have htB : t = mB := by
    have h1 : U₀.methodFound? y.cls y.name y.desc = some mB := State.methodFound?_of_named hnB hy
    simp only [State.methodFound?, hfT, htk', Option.bind_eq_bind, Option.bind_some] at h1
    have hlook' : ((methodIn mB.cls y.name y.desc tk.isInterface none).ask { classPath := fun _ => none } U₀.vm).1 = .ok t := hlook
    rw [hlook'] at h1
    exact Option.some.inj h1
  subst htB
  have hsp : ∀ z : Method, signaturePolymorphic tk z = false := fun z => by simp [signaturePolymorphic, hnameT, hy.1, hy.2]
  obtain ⟨bb, hmem⟩ := memberRef_ask' (e := e) (vm := U₀.vm) (d := zw_k w (20 + i)) (index := mi) hkK1 hfile (Or.inl hpM) hpN
  have hpr : plainRef U₀ e (zw_k w (20 + i)) mi := ⟨ci, _, _, bb, t.cls, tk, hmem, hclsR, htk', by simp [hsp]⟩
  have hbk := vx_back (R := { frames := rc.frames + 1, cells := rc.cells, slots := rc.slots, locals := maxL + 11 + rc.locals }) (p := p) (e := e) (below := .java gj :: below) (s := (T.setVm U₀.vm).calling gj ⟨zw_k w (20 + i), 1⟩ #[.ref f, .ref x]) (sargs := #[.ref f, .ref x]) (len := 3) (W9 := 0) ct9 zw_blind rfl rfl (Nat.le_refl _) (by show 0 + (maxL + 11) + rc.locals ≤ maxL + 11 + rc.locals; omega)
    (fun q hq a' U hW => pay_in hts (lw_meth h4) q hq a' U (State.WarmedH.trans hWU hW)) List.mem_cons_self (fun a' U hW => word_at (State.WarmedH.trans hWU hW) (Or.inl rfl) (hts _ h3))
  have hB := hbk ⟨zw_k w (20 + i), 1⟩ methk ck ⟨U₀, [], 0, 0⟩ { method := ⟨zw_k (w) (20 + i), 1⟩, pc := 12, locals := #[.val (.ref f), .val (.ref x)], stack := [], locked := none } (.invokestatic mi) t #[.int a, .int b, .ref x] Y₀ rfl (by rw [hcm]; rfl) (by rw [hcb]; exact d12) (Nat.le_refl _) hnB ⟨by show 0 + rc.cells ≤ rc.cells; omega, by show 0 + rc.slots ≤ rc.slots; omega, hz U₀ hheap hWU⟩
  rcases hB with ⟨v, ⟨U₁, L₁, c₁, n₁⟩, Y₁, hpost, hsteps⟩ | ⟨q, B, -, ⟨_, _, _, _, _, _, -, -, ⟨M9, h9, -⟩, -⟩, -⟩
  · dsimp only [Pt.U, Pt.locs, Pt.cells, Pt.slots] at Y₁ hpost hsteps
    obtain ⟨g9, mk9, t9, L9, e1, e2, ⟨v9, M1, ho, ⟨r, hv9, hPo⟩, hH9, hF9⟩, e3, e4, e5, e6⟩ := hpost
    dsimp only [Pt.U, Pt.locs, Pt.cells, Pt.slots] at e1 e2 e3 e4 e5 e6
    cases ho
    subst hv9
    have kS : Steps p.tables e (.java gj :: below) (U₀.setTop { method := ⟨zw_k (w) (20 + i), 1⟩, pc := 0, locals := #[.val (.ref f), .val (.ref x)], stack := [], locked := none }) (doInvoke e (U₀.setTop { method := ⟨zw_k (w) (20 + i), 1⟩, pc := 12, locals := #[.val (.ref f), .val (.ref x)], stack := [], locked := none }) [] t #[.int a, .int b, .ref x]).1 := by
      refine k6.trans ?_
      jvm_step Y₀.here [hx0, hcb, d12, invokestatic.wp_ready (e := e) (s := U₀) (m := t) (k := tk) (meth := methB) (args := [.int a, .int b, .ref x]) (rest := []) (f := { method := ⟨zw_k (w) (20 + i), 1⟩, pc := 12, locals := #[.val (.ref f), .val (.ref x)], stack := [.ref x, .int b, .int a], locked := none }) Y₀.here.top hpr hready htk' hmB (hsp _) hstaticB hinitK (by rw [← Option.some.inj (hsig.symm.trans hsigB)]; exact hsn.symm) rfl]
      intro acts
      rw [doInvoke_state]
      exact Steps.refl _
    obtain ⟨fs9, hleave, -, hended, hWe, hsame⟩ := Y₁.leave (v := some (.int r)) (fun h => by rw [hret1] at h; cases h) hlk1
    have hm' : U₁.vm.method? ⟨zw_k w (20 + i), 1⟩ = some methk := Y₁.method'
    have kR : Steps p.tables e (.java gj :: below) (U₁.setTop { method := ⟨zw_k (w) (20 + i), 1⟩, pc := 15, locals := #[.val (.ref f), .val (.ref x)], stack := [.int r], locked := none }) (U₁.setFrames fs9) := by
      jvm_step Y₁.here [Y₁.here.top, hx0, hcb, d15, hm', hret1, narrow]
      first | (intro acts; rw [hleave _ acts rfl rfl rfl]) | rw [hleave _ _ rfl rfl rfl]
      exact Steps.refl _
    have kA := (kS.trans hsteps).trans kR
    obtain ⟨T', X', hW', -, ht⟩ := X₁.outOf hgm hgd hended hWe hsame
    refine Or.inl ⟨some (.int r), U₀.calling g9 mk9 #[.int a, .int b, .ref x], t9, T', L₁, hheap, ?_, ?_, ?_, ?_, ⟨_, M1, rfl, ⟨r, rfl, hPo⟩, hH9, hF9⟩, fun target hg => ?_⟩
    · rw [show rc.cells = c₁ by omega, show rc.slots = n₁ by omega]; exact X'
    · rw [e3]; simpa using e4
    · exact ((congrArg State.heap ht).symm.trans (show (U₁.setFrames fs9).heap = t9.heap from e1))
    · exact ((congrArg State.vm ht).symm.trans (show (U₁.setFrames fs9).vm = t9.vm from e2))
    · refine hstep₁ _ (fun acts => ?_)
      show Steps _ _ _ (doInvoke e ((T.setVm U₀.vm).setTop (F0 m pc ls st)) acts ⟨zw_k w (20 + i), 1⟩ #[.ref f, .ref x]).1 _
      rw [hgj, hin acts, hcm]
      refine (Steps.weaken (mid := [.java gj]) kA).trans ?_
      rw [ht, ← hgj]
      exact hg
  · exact h9.elim
end ZML
