/-! the law's own helpers: each calls one method, keeps its answer, tells the code of what was thrown -/
set_option maxRecDepth 100000
def zw_ete (q : Nat × Nat × Nat × Nat) : ExceptionTableEntry := { startPc := q.1, endPc := q.2.1, handlerPc := q.2.2.1, catchType := q.2.2.2 }
/-- the way into a method with handlers -/
theorem zw_enterW {w : zw_W} {l : Launch} {y : MethodName} {cc : ByteArray} {nL : Nat} {ret : Option FieldType} {hh : List (Nat × Nat × Nat × Nat)} {rm : Room} {av : List Value} {M : zw_M} {Po : Option Value → zw_M → Prop} {Px : String → zw_M → Prop} (own : String) (hown : y.cls = own) (hy : plainName y.cls = true) (hl : l.stackTraces = false) (hc : ∀ v ∈ av, v.category = 1) (hn : (lg_sl av).length ≤ nL)
    (body : ∀ X : zw_X, zw_Xl X = l → zw_Xw X = w → zw_K X cc nL own rm → zw_E X ret Po Px rm.cells rm.slots → X.2.2.2.2.2.2.2.2.2.1.exceptionTable.toList = hh.map zw_ete → zw_Z X M 0 0 0 (zw_lv0 av nL) []) : zw_CW w l y cc nL ret hh rm av M Po Px := by
  refine vx_ofWH (cc := cc) (maxL := nL) (ret := ret) (hh := hh) hy rfl ?_
  intro p e s m args below meth c s₁ B hml hv
  obtain ⟨rfl, hT, hH⟩ := hv
  have hts0 := atoms_spec (ws := wsW_ y cc nL ret hh) B.pre
  have hts : ∀ w ∈ lw_all, w.before _ s = true := fun w h => hts0 w (List.mem_cons_of_mem _ h)
  have hfc : s.vm.findClass own = some m.cls := by rw [← hown]; exact findClass_of_methodNamed B.named
  have htab : c.exceptionTable.toList = hh.map zw_ete := by
    obtain ⟨m9, meth9, c9, k1, k2, k3, -, -, k4, -⟩ := Cond.codeWith_spec (hts0 _ List.mem_cons_self)
    cases Option.some.inj (k1.symm.trans B.named)
    cases Option.some.inj (k2.symm.trans B.method)
    cases Option.some.inj (k3.symm.trans (Stand.of_body B).code)
    rw [← k4, List.map_map]
    exact (List.map_id' _).symm
  have hb := body (p, l, e, rm, s, m, av.toArray, below, meth, c, vx_MQ below (zw_Q w Po) (zw_QX w Px) av.toArray s rm.cells rm.slots (zw_A w), w) rfl rfl ⟨B.exec, B.bytes, hml, hfc, hts, rfl, B.notSynchronized, hT, hl⟩ ⟨B.returns, rfl⟩ htab
  rw [lg_entry_eq]
  refine hb s.heap [] _ hH va_S.rf ?_
  show zw_L _ c.maxLocals _
  rw [hml]
  exact zw_L0 av hc hn
section ZSW
variable {X : zw_X} {cc : ByteArray} {nL : Nat} {own : String} {rm rc : Room} {M : zw_M} {c n c' n' pc pc' : Nat} {lv : List (Option Value)} {st rest As : List Value} {y : MethodName} {bytes : ByteArray} {maxL index : Nat} {ret : Option FieldType} {Po : Option Value → zw_M → Prop} {Px : String → zw_M → Prop} {hh : List (Nat × Nat × Nat × Nat)}
theorem zw_callSW (K : zw_K X cc nL own rm) (ct : zw_CW X.2.2.2.2.2.2.2.2.2.2.2 X.2.1 y bytes maxL ret hh rc As M Po Px) (h1 : Cond.methodLink own index y ∈ lw_all) (h2 : Cond.static y ∈ lw_all) (h3 : Cond.initialized y.cls ∈ lw_all) (h4 : Cond.codeWith y bytes maxL ret hh ∈ lw_all) (hd3 : y.cls ≠ "java/lang/invoke/MethodHandle" ∧ y.cls ≠ "java/lang/invoke/VarHandle" ∧ (parseMethodDescriptor y.desc).map (fun d => d.parameters.length) = some As.length)
    (hst : st = As.reverse ++ rest) (hd : decode cc pc = .ok (.invokestatic index, 3)) (hp : pc + 3 = pc') (hW : (rest.map fun v => v.category).sum ≤ 8) (hR : rc.frames + 1 ≤ rm.frames ∧ 8 + (maxL + 11) + rc.locals ≤ rm.locals) (hc : c + rc.cells ≤ c' ∧ n + rc.slots ≤ n' ∧ c' ≤ rm.cells ∧ n' ≤ rm.slots)
    (kk : ∀ (v : Option Value) (M1 : zw_M), Po v M1 → zw_Z X M1 c' n' pc' lv (v.toList ++ rest)) (kx : ∀ (E : String) (M1 : zw_M), Px E M1 → zw_ZX X M1 c' n' pc lv E) : zw_Z X M c n pc lv st := by
  subst hp; subst hst
  obtain ⟨hx, hb, hml, hown, hts, hRR, -, hT, -⟩ := K
  refine zw_back3 (rest := rest) (a := As.toArray) (fun H locs ls hH hS hl => ?_) ⟨hc.1, hc.2.1⟩ kk kx
  exact vx_runSX (hh := hh) ⟨hx, hb, hml, hown, hts⟩ ct (vx_cwSW As.length hts (lw_SW h1 h2 h3 h4) rfl rfl rfl hd3 (by rw [hRR]; exact hR)) ⟨zw_blind, zw_pre hT hH hS⟩ rfl rfl (hl.1.trans hml) rfl (lv_room hW) hd (by rw [hRR]; omega)
end ZSW
/-- what a helper of the law owes: the code, and the answer kept where the call returned -/
def zPw (w : zw_W) (ad : Nat → Nat → Nat → Nat) (μ : zS) (th : Int32) (o : Int64) (res : zR) : Int32 → zw_M → Prop := fun k M1 => k = res.2.1 ∧ zWx w M1 ad res.2.2 μ th (if res.2.1 = 0 then res.1.toInt64 else o)
theorem zWx.out {w : zw_W} {M M' : zw_M} {ad : Nat → Nat → Nat → Nat} {σ μ : zS} {th : Int32} {o x y : Int64} (h : zWx w M ad σ μ th o) (hM : M' = zw_u M (ad 200 0 0) (zw_eJ w 1 (vp_updL (zgo o) 0 x))) (hx : x = y) : zWx w M' ad σ μ th y := by
  obtain ⟨ad', h1, h2, h3, hW⟩ := h
  refine ⟨ad', h1, h2, h3, ?_⟩
  rw [hM, zgo_up, ← h3, hx]
  exact hW.pout
theorem ztell_01 {σ : zS} {f b t : Int32} (h : ¬ (zop_tell σ f b t).1 = 0) : (zop_tell σ f b t).1 = 1 := by
  unfold zop_tell at h ⊢
  cases z : zfresh σ f b t with
  | false => rw [z] at h; exact absurd rfl h
  | true => rfl
set_option maxHeartbeats 2000000 in
theorem ct_X0_open {w : zw_W} {la : Launch} (hl : la.stackTraces = false) {M : zw_M} {ad : Nat → Nat → Nat → Nat} {σ μ : zS} {th : Int32} {o : Int64} (hW : zW w M ad σ μ th o) (hI : zI σ) : zw_CW w la yX0_open cX0_open 3 (Option.some Jvm.ClassFile.FieldType.int) [((0 : Nat), (8 : Nat), (11 : Nat), (13 : Nat))] (zr 9 4 82) [.ref (ad 0 0 0), .ref (ad 200 0 0)] M (zw_pi (zPw w ad μ th o (zop_tender σ))) zw_no := by
  refine zw_enterW RX0 rfl (by decide) hl (by simp [Value.category]) (Nat.le_of_ble_eq_true rfl) (fun X hXl hXw K hE htab => ?_)
  subst hXl; subst hXw
  show zw_Z X _ 0 0 0 [some (.ref (ad 0 0 0)), some (.ref (ad 200 0 0)), none] []
  refine zw_aload_n (v := .ref (ad 200 0 0)) (pc' := 1) K dX0_open_0 rfl rfl rfl ?_
  refine zw_iconst (v := 0) (pc' := 2) K dX0_open_1 (by decide) rfl ?_
  refine zw_aload_n (v := .ref (ad 0 0 0)) (pc' := 3) K dX0_open_2 rfl rfl rfl ?_
  refine zc_X0_7 (rest := [.int 0, .ref (ad 200 0 0)]) (c' := 4) (n' := 82) (pc' := 6) K (ct_X1_open hl hW hI) hW.c0 rfl rfl dX0_open_3 rfl (Nat.le_of_ble_eq_true rfl) ⟨Nat.le_of_ble_eq_true rfl, Nat.le_of_ble_eq_true rfl⟩ ⟨Nat.le_of_ble_eq_true rfl, Nat.le_of_ble_eq_true rfl, Nat.le_of_ble_eq_true rfl, Nat.le_of_ble_eq_true rfl⟩ (zw_ki fun r Ma h => ?_) (fun E M1 h => ?_)
  · obtain ⟨h0, hr, hx⟩ := h
    have hO : Ma (ad 200 0 0) = some (zw_eJ (zw_Xw X) 1 (zgo o)) := by obtain ⟨ad', -, -, h3, hW'⟩ := hx; rw [← h3]; exact hW'.mout
    refine zw_i2l (pc' := 7) K dX0_open_6 rfl ?_
    refine zn_last (j := 0) (pc' := 8) K hO rfl (by decide) dX0_open_7 rfl ?_
    refine zw_nmM (fun M21 eM21 => ?_)
    have f22 : M21 (ad 200 0 0) = some (zw_eJ (zw_Xw X) 1 (vp_updL (zgo o) 0 r.toInt64)) := by rw [eM21]; exact zw_us
    refine zw_goto (tgt := 14) K dX0_open_8 (by decide) ?_
    refine zw_iconst (v := 0) (pc' := 15) K dX0_open_14 (by decide) rfl ?_
    exact zw_iret K hE dX0_open_15 ⟨Nat.le_of_ble_eq_true rfl, Nat.le_of_ble_eq_true rfl⟩ (⟨h0.symm, by rw [if_pos h0]; exact hx.out (by rw [eM21]) (by rw [hr])⟩)
  · obtain ⟨⟨i, hi, hcd⟩, h1, h2, hW1⟩ := h
    rcases i with _ | i
    · cases hi
      refine zw_catch K (name := "java/lang/IllegalStateException") htab [] (zw_ete (0, 8, 11, 13)) [] rfl (fun z hz => absurd hz List.not_mem_nil) (by decide) (by decide) q190 q200 (fun q => ?_)
      refine zw_astore_n (lv' := [some (.ref (ad 0 0 0)), some (.ref (ad 200 0 0)), some (.ref q)]) (pc' := 12) K dX0_open_11 rfl (by decide) rfl rfl ?_
      refine zw_iconst (v := 1) (pc' := 13) K dX0_open_12 (by decide) rfl ?_
      exact zw_iret K hE dX0_open_13 ⟨Nat.le_of_ble_eq_true rfl, Nat.le_of_ble_eq_true rfl⟩ (⟨by rw [hcd]; rfl, by rw [h2, if_neg (by rw [hcd]; decide)]; exact hW1.x⟩)
    · cases hi
set_option maxHeartbeats 2000000 in
theorem ct_X0_bid {w : zw_W} {la : Launch} (hl : la.stackTraces = false) {M : zw_M} {ad : Nat → Nat → Nat → Nat} {σ μ : zS} {th : Int32} {o : Int64} (hW : zW w M ad σ μ th o) (hI : zI σ) (p0 p1 p2 : Int32) : zw_CW w la yX0_bid cX0_bid 6 (Option.some Jvm.ClassFile.FieldType.int) [((0 : Nat), (12 : Nat), (15 : Nat), (19 : Nat)), ((0 : Nat), (12 : Nat), (19 : Nat), (21 : Nat)), ((0 : Nat), (12 : Nat), (23 : Nat), (13 : Nat))] (zr 9 5 26) [.ref (ad 0 0 0), .int p0, .int p1, .int p2, .ref (ad 200 0 0)] M (zw_pi (zPw w ad μ th o (zop_bid σ p0 p1 p2))) zw_no := by
  refine zw_enterW RX0 rfl (by decide) hl (by simp [Value.category]) (Nat.le_of_ble_eq_true rfl) (fun X hXl hXw K hE htab => ?_)
  subst hXl; subst hXw
  show zw_Z X _ 0 0 0 [some (.ref (ad 0 0 0)), some (.int p0), some (.int p1), some (.int p2), some (.ref (ad 200 0 0)), none] []
  refine zw_aload (v := .ref (ad 200 0 0)) (pc' := 2) K dX0_bid_0 rfl rfl rfl ?_
  refine zw_iconst (v := 0) (pc' := 3) K dX0_bid_2 (by decide) rfl ?_
  refine zw_aload_n (v := .ref (ad 0 0 0)) (pc' := 4) K dX0_bid_3 rfl rfl rfl ?_
  refine zw_iload_n (x := p0) (pc' := 5) K dX0_bid_4 rfl rfl ?_
  refine zw_iload_n (x := p1) (pc' := 6) K dX0_bid_5 rfl rfl ?_
  refine zw_iload_n (x := p2) (pc' := 7) K dX0_bid_6 rfl rfl ?_
  refine zc_X0_15 (rest := [.int 0, .ref (ad 200 0 0)]) (c' := 5) (n' := 26) (pc' := 10) K (ct_X1_bid hl hW hI p0 p1 p2) hW.c0 rfl rfl dX0_bid_7 rfl (Nat.le_of_ble_eq_true rfl) ⟨Nat.le_of_ble_eq_true rfl, Nat.le_of_ble_eq_true rfl⟩ ⟨Nat.le_of_ble_eq_true rfl, Nat.le_of_ble_eq_true rfl, Nat.le_of_ble_eq_true rfl, Nat.le_of_ble_eq_true rfl⟩ (zw_ki fun r Ma h => ?_) (fun E M1 h => ?_)
  · obtain ⟨h0, hr, hx⟩ := h
    have hO : Ma (ad 200 0 0) = some (zw_eJ (zw_Xw X) 1 (zgo o)) := by obtain ⟨ad', -, -, h3, hW'⟩ := hx; rw [← h3]; exact hW'.mout
    refine zw_i2l (pc' := 11) K dX0_bid_10 rfl ?_
    refine zn_last (j := 0) (pc' := 12) K hO rfl (by decide) dX0_bid_11 rfl ?_
    refine zw_nmM (fun M21 eM21 => ?_)
    have f22 : M21 (ad 200 0 0) = some (zw_eJ (zw_Xw X) 1 (vp_updL (zgo o) 0 r.toInt64)) := by rw [eM21]; exact zw_us
    refine zw_goto (tgt := 27) K dX0_bid_12 (by decide) ?_
    refine zw_iconst (v := 0) (pc' := 28) K dX0_bid_27 (by decide) rfl ?_
    exact zw_iret K hE dX0_bid_28 ⟨Nat.le_of_ble_eq_true rfl, Nat.le_of_ble_eq_true rfl⟩ (⟨h0.symm, by rw [if_pos h0]; exact hx.out (by rw [eM21]) (by rw [hr])⟩)
  · obtain ⟨⟨i, hi, hcd⟩, h1, h2, hW1⟩ := h
    rcases i with _ | i
    · cases hi
      refine zw_catch K (name := "java/lang/IndexOutOfBoundsException") htab [] (zw_ete (0, 12, 15, 19)) [zw_ete (0, 12, 19, 21), zw_ete (0, 12, 23, 13)] rfl (fun z hz => absurd hz List.not_mem_nil) (by decide) (by decide) q357 q391 (fun q => ?_)
      refine zw_astore (lv' := [some (.ref (ad 0 0 0)), some (.int p0), some (.int p1), some (.int p2), some (.ref (ad 200 0 0)), some (.ref q)]) (pc' := 17) K dX0_bid_15 rfl (by decide) rfl rfl ?_
      refine zw_iconst (v := 1) (pc' := 18) K dX0_bid_17 (by decide) rfl ?_
      exact zw_iret K hE dX0_bid_18 ⟨Nat.le_of_ble_eq_true rfl, Nat.le_of_ble_eq_true rfl⟩ (⟨by rw [hcd]; rfl, by rw [h2, if_neg (by rw [hcd]; decide)]; exact hW1.x⟩)
    · rcases i with _ | i
      · cases hi
        refine zw_catch K (name := "java/lang/IllegalArgumentException") htab [zw_ete (0, 12, 15, 19)] (zw_ete (0, 12, 19, 21)) [zw_ete (0, 12, 23, 13)] rfl (fun z hz => by rcases List.mem_cons.mp hz with rfl | hz; exact Or.inr ⟨by decide, _, q357, by decide⟩; exact absurd hz List.not_mem_nil) (by decide) (by decide) q381 q410 (fun q => ?_)
        refine zw_astore (lv' := [some (.ref (ad 0 0 0)), some (.int p0), some (.int p1), some (.int p2), some (.ref (ad 200 0 0)), some (.ref q)]) (pc' := 21) K dX0_bid_19 rfl (by decide) rfl rfl ?_
        refine zw_iconst (v := 2) (pc' := 22) K dX0_bid_21 (by decide) rfl ?_
        exact zw_iret K hE dX0_bid_22 ⟨Nat.le_of_ble_eq_true rfl, Nat.le_of_ble_eq_true rfl⟩ (⟨by rw [hcd]; rfl, by rw [h2, if_neg (by rw [hcd]; decide)]; exact hW1.x⟩)
      · rcases i with _ | i
        · cases hi
          refine zw_catch K (name := "java/lang/IllegalStateException") htab [zw_ete (0, 12, 15, 19), zw_ete (0, 12, 19, 21)] (zw_ete (0, 12, 23, 13)) [] rfl (fun z hz => by rcases List.mem_cons.mp hz with rfl | hz; exact Or.inr ⟨by decide, _, q357, by decide⟩; rcases List.mem_cons.mp hz with rfl | hz; exact Or.inr ⟨by decide, _, q381, by decide⟩; exact absurd hz List.not_mem_nil) (by decide) (by decide) q190 q200 (fun q => ?_)
          refine zw_astore (lv' := [some (.ref (ad 0 0 0)), some (.int p0), some (.int p1), some (.int p2), some (.ref (ad 200 0 0)), some (.ref q)]) (pc' := 25) K dX0_bid_23 rfl (by decide) rfl rfl ?_
          refine zw_iconst (v := 3) (pc' := 26) K dX0_bid_25 (by decide) rfl ?_
          exact zw_iret K hE dX0_bid_26 ⟨Nat.le_of_ble_eq_true rfl, Nat.le_of_ble_eq_true rfl⟩ (⟨by rw [hcd]; rfl, by rw [h2, if_neg (by rw [hcd]; decide)]; exact hW1.x⟩)
        · cases hi
set_option maxHeartbeats 2000000 in
theorem ct_X0_withdraw {w : zw_W} {la : Launch} (hl : la.stackTraces = false) {M : zw_M} {ad : Nat → Nat → Nat → Nat} {σ μ : zS} {th : Int32} {o : Int64} (hW : zW w M ad σ μ th o) (hI : zI σ) (p0 p1 : Int32) : zw_CW w la yX0_withdraw cX0_withdraw 5 (Option.some Jvm.ClassFile.FieldType.int) [((0 : Nat), (10 : Nat), (13 : Nat), (19 : Nat)), ((0 : Nat), (10 : Nat), (17 : Nat), (21 : Nat)), ((0 : Nat), (10 : Nat), (21 : Nat), (13 : Nat))] (zr 9 3 18) [.ref (ad 0 0 0), .int p0, .int p1, .ref (ad 200 0 0)] M (zw_pi (zPw w ad μ th o (zop_withdraw σ p0 p1))) zw_no := by
  refine zw_enterW RX0 rfl (by decide) hl (by simp [Value.category]) (Nat.le_of_ble_eq_true rfl) (fun X hXl hXw K hE htab => ?_)
  subst hXl; subst hXw
  show zw_Z X _ 0 0 0 [some (.ref (ad 0 0 0)), some (.int p0), some (.int p1), some (.ref (ad 200 0 0)), none] []
  refine zw_aload_n (v := .ref (ad 200 0 0)) (pc' := 1) K dX0_withdraw_0 rfl rfl rfl ?_
  refine zw_iconst (v := 0) (pc' := 2) K dX0_withdraw_1 (by decide) rfl ?_
  refine zw_aload_n (v := .ref (ad 0 0 0)) (pc' := 3) K dX0_withdraw_2 rfl rfl rfl ?_
  refine zw_iload_n (x := p0) (pc' := 4) K dX0_withdraw_3 rfl rfl ?_
  refine zw_iload_n (x := p1) (pc' := 5) K dX0_withdraw_4 rfl rfl ?_
  refine zc_X0_23 (rest := [.int 0, .ref (ad 200 0 0)]) (c' := 3) (n' := 18) (pc' := 8) K (ct_X1_withdraw hl hW hI p0 p1) hW.c0 rfl rfl dX0_withdraw_5 rfl (Nat.le_of_ble_eq_true rfl) ⟨Nat.le_of_ble_eq_true rfl, Nat.le_of_ble_eq_true rfl⟩ ⟨Nat.le_of_ble_eq_true rfl, Nat.le_of_ble_eq_true rfl, Nat.le_of_ble_eq_true rfl, Nat.le_of_ble_eq_true rfl⟩ (zw_ki fun r Ma h => ?_) (fun E M1 h => ?_)
  · obtain ⟨h0, hr, hx⟩ := h
    have hO : Ma (ad 200 0 0) = some (zw_eJ (zw_Xw X) 1 (zgo o)) := by obtain ⟨ad', -, -, h3, hW'⟩ := hx; rw [← h3]; exact hW'.mout
    refine zw_i2l (pc' := 9) K dX0_withdraw_8 rfl ?_
    refine zn_last (j := 0) (pc' := 10) K hO rfl (by decide) dX0_withdraw_9 rfl ?_
    refine zw_nmM (fun M21 eM21 => ?_)
    have f22 : M21 (ad 200 0 0) = some (zw_eJ (zw_Xw X) 1 (vp_updL (zgo o) 0 r.toInt64)) := by rw [eM21]; exact zw_us
    refine zw_goto (tgt := 25) K dX0_withdraw_10 (by decide) ?_
    refine zw_iconst (v := 0) (pc' := 26) K dX0_withdraw_25 (by decide) rfl ?_
    exact zw_iret K hE dX0_withdraw_26 ⟨Nat.le_of_ble_eq_true rfl, Nat.le_of_ble_eq_true rfl⟩ (⟨h0.symm, by rw [if_pos h0]; exact hx.out (by rw [eM21]) (by rw [hr])⟩)
  · obtain ⟨⟨i, hi, hcd⟩, h1, h2, hW1⟩ := h
    rcases i with _ | i
    · cases hi
      refine zw_catch K (name := "java/lang/IndexOutOfBoundsException") htab [] (zw_ete (0, 10, 13, 19)) [zw_ete (0, 10, 17, 21), zw_ete (0, 10, 21, 13)] rfl (fun z hz => absurd hz List.not_mem_nil) (by decide) (by decide) q357 q391 (fun q => ?_)
      refine zw_astore (lv' := [some (.ref (ad 0 0 0)), some (.int p0), some (.int p1), some (.ref (ad 200 0 0)), some (.ref q)]) (pc' := 15) K dX0_withdraw_13 rfl (by decide) rfl rfl ?_
      refine zw_iconst (v := 1) (pc' := 16) K dX0_withdraw_15 (by decide) rfl ?_
      exact zw_iret K hE dX0_withdraw_16 ⟨Nat.le_of_ble_eq_true rfl, Nat.le_of_ble_eq_true rfl⟩ (⟨by rw [hcd]; rfl, by rw [h2, if_neg (by rw [hcd]; decide)]; exact hW1.x⟩)
    · rcases i with _ | i
      · cases hi
        refine zw_catch K (name := "java/lang/IllegalArgumentException") htab [zw_ete (0, 10, 13, 19)] (zw_ete (0, 10, 17, 21)) [zw_ete (0, 10, 21, 13)] rfl (fun z hz => by rcases List.mem_cons.mp hz with rfl | hz; exact Or.inr ⟨by decide, _, q357, by decide⟩; exact absurd hz List.not_mem_nil) (by decide) (by decide) q381 q410 (fun q => ?_)
        refine zw_astore (lv' := [some (.ref (ad 0 0 0)), some (.int p0), some (.int p1), some (.ref (ad 200 0 0)), some (.ref q)]) (pc' := 19) K dX0_withdraw_17 rfl (by decide) rfl rfl ?_
        refine zw_iconst (v := 2) (pc' := 20) K dX0_withdraw_19 (by decide) rfl ?_
        exact zw_iret K hE dX0_withdraw_20 ⟨Nat.le_of_ble_eq_true rfl, Nat.le_of_ble_eq_true rfl⟩ (⟨by rw [hcd]; rfl, by rw [h2, if_neg (by rw [hcd]; decide)]; exact hW1.x⟩)
      · rcases i with _ | i
        · cases hi
          refine zw_catch K (name := "java/lang/IllegalStateException") htab [zw_ete (0, 10, 13, 19), zw_ete (0, 10, 17, 21)] (zw_ete (0, 10, 21, 13)) [] rfl (fun z hz => by rcases List.mem_cons.mp hz with rfl | hz; exact Or.inr ⟨by decide, _, q357, by decide⟩; rcases List.mem_cons.mp hz with rfl | hz; exact Or.inr ⟨by decide, _, q381, by decide⟩; exact absurd hz List.not_mem_nil) (by decide) (by decide) q190 q200 (fun q => ?_)
          refine zw_astore (lv' := [some (.ref (ad 0 0 0)), some (.int p0), some (.int p1), some (.ref (ad 200 0 0)), some (.ref q)]) (pc' := 23) K dX0_withdraw_21 rfl (by decide) rfl rfl ?_
          refine zw_iconst (v := 3) (pc' := 24) K dX0_withdraw_23 (by decide) rfl ?_
          exact zw_iret K hE dX0_withdraw_24 ⟨Nat.le_of_ble_eq_true rfl, Nat.le_of_ble_eq_true rfl⟩ (⟨by rw [hcd]; rfl, by rw [h2, if_neg (by rw [hcd]; decide)]; exact hW1.x⟩)
        · cases hi
set_option maxHeartbeats 2000000 in
theorem ct_X0_award {w : zw_W} {la : Launch} (hl : la.stackTraces = false) {M : zw_M} {ad : Nat → Nat → Nat → Nat} {σ μ : zS} {th : Int32} {o : Int64} (hW : zW w M ad σ μ th o) (hI : zI σ) (p0 : Int32) : zw_CW w la yX0_award cX0_award 4 (Option.some Jvm.ClassFile.FieldType.int) [((0 : Nat), (9 : Nat), (12 : Nat), (19 : Nat)), ((0 : Nat), (9 : Nat), (15 : Nat), (13 : Nat))] (zr 9 2 12) [.ref (ad 0 0 0), .int p0, .ref (ad 200 0 0)] M (zw_pi (zPw w ad μ th o (zop_award σ p0))) zw_no := by
  refine zw_enterW RX0 rfl (by decide) hl (by simp [Value.category]) (Nat.le_of_ble_eq_true rfl) (fun X hXl hXw K hE htab => ?_)
  subst hXl; subst hXw
  show zw_Z X _ 0 0 0 [some (.ref (ad 0 0 0)), some (.int p0), some (.ref (ad 200 0 0)), none] []
  refine zw_aload_n (v := .ref (ad 200 0 0)) (pc' := 1) K dX0_award_0 rfl rfl rfl ?_
  refine zw_iconst (v := 0) (pc' := 2) K dX0_award_1 (by decide) rfl ?_
  refine zw_aload_n (v := .ref (ad 0 0 0)) (pc' := 3) K dX0_award_2 rfl rfl rfl ?_
  refine zw_iload_n (x := p0) (pc' := 4) K dX0_award_3 rfl rfl ?_
  refine zc_X0_27 (rest := [.int 0, .ref (ad 200 0 0)]) (c' := 2) (n' := 12) (pc' := 7) K (ct_X1_award hl hW hI p0) hW.c0 rfl rfl dX0_award_4 rfl (Nat.le_of_ble_eq_true rfl) ⟨Nat.le_of_ble_eq_true rfl, Nat.le_of_ble_eq_true rfl⟩ ⟨Nat.le_of_ble_eq_true rfl, Nat.le_of_ble_eq_true rfl, Nat.le_of_ble_eq_true rfl, Nat.le_of_ble_eq_true rfl⟩ (zw_ki fun r Ma h => ?_) (fun E M1 h => ?_)
  · obtain ⟨h0, hr, hx⟩ := h
    have hO : Ma (ad 200 0 0) = some (zw_eJ (zw_Xw X) 1 (zgo o)) := by obtain ⟨ad', -, -, h3, hW'⟩ := hx; rw [← h3]; exact hW'.mout
    refine zw_i2l (pc' := 8) K dX0_award_7 rfl ?_
    refine zn_last (j := 0) (pc' := 9) K hO rfl (by decide) dX0_award_8 rfl ?_
    refine zw_nmM (fun M21 eM21 => ?_)
    have f22 : M21 (ad 200 0 0) = some (zw_eJ (zw_Xw X) 1 (vp_updL (zgo o) 0 r.toInt64)) := by rw [eM21]; exact zw_us
    refine zw_goto (tgt := 18) K dX0_award_9 (by decide) ?_
    refine zw_iconst (v := 0) (pc' := 19) K dX0_award_18 (by decide) rfl ?_
    exact zw_iret K hE dX0_award_19 ⟨Nat.le_of_ble_eq_true rfl, Nat.le_of_ble_eq_true rfl⟩ (⟨h0.symm, by rw [if_pos h0]; exact hx.out (by rw [eM21]) (by rw [hr])⟩)
  · obtain ⟨⟨i, hi, hcd⟩, h1, h2, hW1⟩ := h
    rcases i with _ | i
    · cases hi
      refine zw_catch K (name := "java/lang/IndexOutOfBoundsException") htab [] (zw_ete (0, 9, 12, 19)) [zw_ete (0, 9, 15, 13)] rfl (fun z hz => absurd hz List.not_mem_nil) (by decide) (by decide) q357 q391 (fun q => ?_)
      refine zw_astore_n (lv' := [some (.ref (ad 0 0 0)), some (.int p0), some (.ref (ad 200 0 0)), some (.ref q)]) (pc' := 13) K dX0_award_12 rfl (by decide) rfl rfl ?_
      refine zw_iconst (v := 1) (pc' := 14) K dX0_award_13 (by decide) rfl ?_
      exact zw_iret K hE dX0_award_14 ⟨Nat.le_of_ble_eq_true rfl, Nat.le_of_ble_eq_true rfl⟩ (⟨by rw [hcd]; rfl, by rw [h2, if_neg (by rw [hcd]; decide)]; exact hW1.x⟩)
    · rcases i with _ | i
      · cases hi
        refine zw_catch K (name := "java/lang/IllegalStateException") htab [zw_ete (0, 9, 12, 19)] (zw_ete (0, 9, 15, 13)) [] rfl (fun z hz => by rcases List.mem_cons.mp hz with rfl | hz; exact Or.inr ⟨by decide, _, q357, by decide⟩; exact absurd hz List.not_mem_nil) (by decide) (by decide) q190 q200 (fun q => ?_)
        refine zw_astore_n (lv' := [some (.ref (ad 0 0 0)), some (.int p0), some (.ref (ad 200 0 0)), some (.ref q)]) (pc' := 16) K dX0_award_15 rfl (by decide) rfl rfl ?_
        refine zw_iconst (v := 2) (pc' := 17) K dX0_award_16 (by decide) rfl ?_
        exact zw_iret K hE dX0_award_17 ⟨Nat.le_of_ble_eq_true rfl, Nat.le_of_ble_eq_true rfl⟩ (⟨by rw [hcd]; rfl, by rw [h2, if_neg (by rw [hcd]; decide)]; exact hW1.x⟩)
      · cases hi
set_option maxHeartbeats 2000000 in
theorem ct_X0_passOn {w : zw_W} {la : Launch} (hl : la.stackTraces = false) {M : zw_M} {ad : Nat → Nat → Nat → Nat} {σ μ : zS} {th : Int32} {o : Int64} (hW : zW w M ad σ μ th o) (hI : zI σ) (p0 p1 p2 : Int32) : zw_CW w la yX0_passOn cX0_passOn 6 (Option.some Jvm.ClassFile.FieldType.int) [((0 : Nat), (12 : Nat), (15 : Nat), (19 : Nat)), ((0 : Nat), (12 : Nat), (19 : Nat), (13 : Nat)), ((0 : Nat), (12 : Nat), (23 : Nat), (21 : Nat))] (zr 9 5 30) [.ref (ad 0 0 0), .int p0, .int p1, .int p2, .ref (ad 200 0 0)] M (zw_pi (zPw w ad μ th o (zop_passOn σ p0 p1 p2))) zw_no := by
  refine zw_enterW RX0 rfl (by decide) hl (by simp [Value.category]) (Nat.le_of_ble_eq_true rfl) (fun X hXl hXw K hE htab => ?_)
  subst hXl; subst hXw
  show zw_Z X _ 0 0 0 [some (.ref (ad 0 0 0)), some (.int p0), some (.int p1), some (.int p2), some (.ref (ad 200 0 0)), none] []
  refine zw_aload (v := .ref (ad 200 0 0)) (pc' := 2) K dX0_passOn_0 rfl rfl rfl ?_
  refine zw_iconst (v := 0) (pc' := 3) K dX0_passOn_2 (by decide) rfl ?_
  refine zw_aload_n (v := .ref (ad 0 0 0)) (pc' := 4) K dX0_passOn_3 rfl rfl rfl ?_
  refine zw_iload_n (x := p0) (pc' := 5) K dX0_passOn_4 rfl rfl ?_
  refine zw_iload_n (x := p1) (pc' := 6) K dX0_passOn_5 rfl rfl ?_
  refine zw_iload_n (x := p2) (pc' := 7) K dX0_passOn_6 rfl rfl ?_
  refine zc_X0_31 (rest := [.int 0, .ref (ad 200 0 0)]) (c' := 5) (n' := 30) (pc' := 10) K (ct_X1_passOn hl hW hI p0 p1 p2) hW.c0 rfl rfl dX0_passOn_7 rfl (Nat.le_of_ble_eq_true rfl) ⟨Nat.le_of_ble_eq_true rfl, Nat.le_of_ble_eq_true rfl⟩ ⟨Nat.le_of_ble_eq_true rfl, Nat.le_of_ble_eq_true rfl, Nat.le_of_ble_eq_true rfl, Nat.le_of_ble_eq_true rfl⟩ (zw_ki fun r Ma h => ?_) (fun E M1 h => ?_)
  · obtain ⟨h0, hr, hx⟩ := h
    have hO : Ma (ad 200 0 0) = some (zw_eJ (zw_Xw X) 1 (zgo o)) := by obtain ⟨ad', -, -, h3, hW'⟩ := hx; rw [← h3]; exact hW'.mout
    refine zw_i2l (pc' := 11) K dX0_passOn_10 rfl ?_
    refine zn_last (j := 0) (pc' := 12) K hO rfl (by decide) dX0_passOn_11 rfl ?_
    refine zw_nmM (fun M21 eM21 => ?_)
    have f22 : M21 (ad 200 0 0) = some (zw_eJ (zw_Xw X) 1 (vp_updL (zgo o) 0 r.toInt64)) := by rw [eM21]; exact zw_us
    refine zw_goto (tgt := 27) K dX0_passOn_12 (by decide) ?_
    refine zw_iconst (v := 0) (pc' := 28) K dX0_passOn_27 (by decide) rfl ?_
    exact zw_iret K hE dX0_passOn_28 ⟨Nat.le_of_ble_eq_true rfl, Nat.le_of_ble_eq_true rfl⟩ (⟨h0.symm, by rw [if_pos h0]; exact hx.out (by rw [eM21]) (by rw [hr])⟩)
  · obtain ⟨⟨i, hi, hcd⟩, h1, h2, hW1⟩ := h
    rcases i with _ | i
    · cases hi
      refine zw_catch K (name := "java/lang/IndexOutOfBoundsException") htab [] (zw_ete (0, 12, 15, 19)) [zw_ete (0, 12, 19, 13), zw_ete (0, 12, 23, 21)] rfl (fun z hz => absurd hz List.not_mem_nil) (by decide) (by decide) q357 q391 (fun q => ?_)
      refine zw_astore (lv' := [some (.ref (ad 0 0 0)), some (.int p0), some (.int p1), some (.int p2), some (.ref (ad 200 0 0)), some (.ref q)]) (pc' := 17) K dX0_passOn_15 rfl (by decide) rfl rfl ?_
      refine zw_iconst (v := 1) (pc' := 18) K dX0_passOn_17 (by decide) rfl ?_
      exact zw_iret K hE dX0_passOn_18 ⟨Nat.le_of_ble_eq_true rfl, Nat.le_of_ble_eq_true rfl⟩ (⟨by rw [hcd]; rfl, by rw [h2, if_neg (by rw [hcd]; decide)]; exact hW1.x⟩)
    · rcases i with _ | i
      · cases hi
        refine zw_catch K (name := "java/lang/IllegalStateException") htab [zw_ete (0, 12, 15, 19)] (zw_ete (0, 12, 19, 13)) [zw_ete (0, 12, 23, 21)] rfl (fun z hz => by rcases List.mem_cons.mp hz with rfl | hz; exact Or.inr ⟨by decide, _, q357, by decide⟩; exact absurd hz List.not_mem_nil) (by decide) (by decide) q190 q200 (fun q => ?_)
        refine zw_astore (lv' := [some (.ref (ad 0 0 0)), some (.int p0), some (.int p1), some (.int p2), some (.ref (ad 200 0 0)), some (.ref q)]) (pc' := 21) K dX0_passOn_19 rfl (by decide) rfl rfl ?_
        refine zw_iconst (v := 2) (pc' := 22) K dX0_passOn_21 (by decide) rfl ?_
        exact zw_iret K hE dX0_passOn_22 ⟨Nat.le_of_ble_eq_true rfl, Nat.le_of_ble_eq_true rfl⟩ (⟨by rw [hcd]; rfl, by rw [h2, if_neg (by rw [hcd]; decide)]; exact hW1.x⟩)
      · rcases i with _ | i
        · cases hi
          refine zw_catch K (name := "java/lang/IllegalArgumentException") htab [zw_ete (0, 12, 15, 19), zw_ete (0, 12, 19, 13)] (zw_ete (0, 12, 23, 21)) [] rfl (fun z hz => by rcases List.mem_cons.mp hz with rfl | hz; exact Or.inr ⟨by decide, _, q357, by decide⟩; rcases List.mem_cons.mp hz with rfl | hz; exact Or.inr ⟨by decide, _, q190, by decide⟩; exact absurd hz List.not_mem_nil) (by decide) (by decide) q381 q410 (fun q => ?_)
          refine zw_astore (lv' := [some (.ref (ad 0 0 0)), some (.int p0), some (.int p1), some (.int p2), some (.ref (ad 200 0 0)), some (.ref q)]) (pc' := 25) K dX0_passOn_23 rfl (by decide) rfl rfl ?_
          refine zw_iconst (v := 3) (pc' := 26) K dX0_passOn_25 (by decide) rfl ?_
          exact zw_iret K hE dX0_passOn_26 ⟨Nat.le_of_ble_eq_true rfl, Nat.le_of_ble_eq_true rfl⟩ (⟨by rw [hcd]; rfl, by rw [h2, if_neg (by rw [hcd]; decide)]; exact hW1.x⟩)
        · cases hi
set_option maxHeartbeats 2000000 in
theorem ct_X0_turnover {w : zw_W} {la : Launch} (hl : la.stackTraces = false) {M : zw_M} {ad : Nat → Nat → Nat → Nat} {σ μ : zS} {th : Int32} {o : Int64} (hW : zW w M ad σ μ th o) (hI : zI σ) (p0 : Int32) : zw_CW w la yX0_turnover cX0_turnover 4 (Option.some Jvm.ClassFile.FieldType.int) [((0 : Nat), (9 : Nat), (12 : Nat), (21 : Nat))] (zrl 10 2 7) [.ref (ad 0 0 0), .int p0, .ref (ad 200 0 0)] M (zw_pi (zPw w ad μ th o (zop_turnover σ p0))) zw_no := by
  refine zw_enterW RX0 rfl (by decide) hl (by simp [Value.category]) (Nat.le_of_ble_eq_true rfl) (fun X hXl hXw K hE htab => ?_)
  subst hXl; subst hXw
  show zw_Z X _ 0 0 0 [some (.ref (ad 0 0 0)), some (.int p0), some (.ref (ad 200 0 0)), none] []
  refine zw_aload_n (v := .ref (ad 200 0 0)) (pc' := 1) K dX0_turnover_0 rfl rfl rfl ?_
  refine zw_iconst (v := 0) (pc' := 2) K dX0_turnover_1 (by decide) rfl ?_
  refine zw_aload_n (v := .ref (ad 0 0 0)) (pc' := 3) K dX0_turnover_2 rfl rfl rfl ?_
  refine zw_iload_n (x := p0) (pc' := 4) K dX0_turnover_3 rfl rfl ?_
  refine zc_X0_34 (rest := [.int 0, .ref (ad 200 0 0)]) (c' := 2) (n' := 7) (pc' := 7) K (ct_X1_turnover hl hW hI p0) hW.c0 rfl rfl dX0_turnover_4 rfl (Nat.le_of_ble_eq_true rfl) ⟨Nat.le_of_ble_eq_true rfl, Nat.le_of_ble_eq_true rfl⟩ ⟨Nat.le_of_ble_eq_true rfl, Nat.le_of_ble_eq_true rfl, Nat.le_of_ble_eq_true rfl, Nat.le_of_ble_eq_true rfl⟩ (zw_ki fun r Ma h => ?_) (fun E M1 h => ?_)
  · obtain ⟨h0, hr, hx⟩ := h
    have hO : Ma (ad 200 0 0) = some (zw_eJ (zw_Xw X) 1 (zgo o)) := by obtain ⟨ad', -, -, h3, hW'⟩ := hx; rw [← h3]; exact hW'.mout
    refine zw_i2l (pc' := 8) K dX0_turnover_7 rfl ?_
    refine zn_last (j := 0) (pc' := 9) K hO rfl (by decide) dX0_turnover_8 rfl ?_
    refine zw_nmM (fun M21 eM21 => ?_)
    have f22 : M21 (ad 200 0 0) = some (zw_eJ (zw_Xw X) 1 (vp_updL (zgo o) 0 r.toInt64)) := by rw [eM21]; exact zw_us
    refine zw_goto (tgt := 15) K dX0_turnover_9 (by decide) ?_
    refine zw_iconst (v := 0) (pc' := 16) K dX0_turnover_15 (by decide) rfl ?_
    exact zw_iret K hE dX0_turnover_16 ⟨Nat.le_of_ble_eq_true rfl, Nat.le_of_ble_eq_true rfl⟩ (⟨h0.symm, by rw [if_pos h0]; exact hx.out (by rw [eM21]) (by rw [hr])⟩)
  · obtain ⟨⟨i, hi, hcd⟩, h1, h2, hW1⟩ := h
    rcases i with _ | i
    · cases hi
      refine zw_catch K (name := "java/lang/IllegalArgumentException") htab [] (zw_ete (0, 9, 12, 21)) [] rfl (fun z hz => absurd hz List.not_mem_nil) (by decide) (by decide) q381 q410 (fun q => ?_)
      refine zw_astore_n (lv' := [some (.ref (ad 0 0 0)), some (.int p0), some (.ref (ad 200 0 0)), some (.ref q)]) (pc' := 13) K dX0_turnover_12 rfl (by decide) rfl rfl ?_
      refine zw_iconst (v := 1) (pc' := 14) K dX0_turnover_13 (by decide) rfl ?_
      exact zw_iret K hE dX0_turnover_14 ⟨Nat.le_of_ble_eq_true rfl, Nat.le_of_ble_eq_true rfl⟩ (⟨by rw [hcd]; rfl, by rw [h2, if_neg (by rw [hcd]; decide)]; exact hW1.x⟩)
    · cases hi
set_option maxHeartbeats 2000000 in
theorem ct_X0_won {w : zw_W} {la : Launch} (hl : la.stackTraces = false) {M : zw_M} {ad : Nat → Nat → Nat → Nat} {σ μ : zS} {th : Int32} {o : Int64} (hW : zW w M ad σ μ th o) (hI : zI σ) (p0 : Int32) : zw_CW w la yX0_won cX0_won 4 (Option.some Jvm.ClassFile.FieldType.int) [((0 : Nat), (9 : Nat), (12 : Nat), (21 : Nat))] (zrl 9 2 7) [.ref (ad 0 0 0), .int p0, .ref (ad 200 0 0)] M (zw_pi (zPw w ad μ th o (zop_won σ p0))) zw_no := by
  refine zw_enterW RX0 rfl (by decide) hl (by simp [Value.category]) (Nat.le_of_ble_eq_true rfl) (fun X hXl hXw K hE htab => ?_)
  subst hXl; subst hXw
  show zw_Z X _ 0 0 0 [some (.ref (ad 0 0 0)), some (.int p0), some (.ref (ad 200 0 0)), none] []
  refine zw_aload_n (v := .ref (ad 200 0 0)) (pc' := 1) K dX0_won_0 rfl rfl rfl ?_
  refine zw_iconst (v := 0) (pc' := 2) K dX0_won_1 (by decide) rfl ?_
  refine zw_aload_n (v := .ref (ad 0 0 0)) (pc' := 3) K dX0_won_2 rfl rfl rfl ?_
  refine zw_iload_n (x := p0) (pc' := 4) K dX0_won_3 rfl rfl ?_
  refine zc_X0_37 (rest := [.int 0, .ref (ad 200 0 0)]) (c' := 2) (n' := 7) (pc' := 7) K (ct_X1_won hl hW hI p0) hW.c0 rfl rfl dX0_won_4 rfl (Nat.le_of_ble_eq_true rfl) ⟨Nat.le_of_ble_eq_true rfl, Nat.le_of_ble_eq_true rfl⟩ ⟨Nat.le_of_ble_eq_true rfl, Nat.le_of_ble_eq_true rfl, Nat.le_of_ble_eq_true rfl, Nat.le_of_ble_eq_true rfl⟩ (zw_ki fun r Ma h => ?_) (fun E M1 h => ?_)
  · obtain ⟨h0, hr, hx⟩ := h
    have hO : Ma (ad 200 0 0) = some (zw_eJ (zw_Xw X) 1 (zgo o)) := by obtain ⟨ad', -, -, h3, hW'⟩ := hx; rw [← h3]; exact hW'.mout
    refine zw_i2l (pc' := 8) K dX0_won_7 rfl ?_
    refine zn_last (j := 0) (pc' := 9) K hO rfl (by decide) dX0_won_8 rfl ?_
    refine zw_nmM (fun M21 eM21 => ?_)
    have f22 : M21 (ad 200 0 0) = some (zw_eJ (zw_Xw X) 1 (vp_updL (zgo o) 0 r.toInt64)) := by rw [eM21]; exact zw_us
    refine zw_goto (tgt := 15) K dX0_won_9 (by decide) ?_
    refine zw_iconst (v := 0) (pc' := 16) K dX0_won_15 (by decide) rfl ?_
    exact zw_iret K hE dX0_won_16 ⟨Nat.le_of_ble_eq_true rfl, Nat.le_of_ble_eq_true rfl⟩ (⟨h0.symm, by rw [if_pos h0]; exact hx.out (by rw [eM21]) (by rw [hr])⟩)
  · obtain ⟨⟨i, hi, hcd⟩, h1, h2, hW1⟩ := h
    rcases i with _ | i
    · cases hi
      refine zw_catch K (name := "java/lang/IllegalArgumentException") htab [] (zw_ete (0, 9, 12, 21)) [] rfl (fun z hz => absurd hz List.not_mem_nil) (by decide) (by decide) q381 q410 (fun q => ?_)
      refine zw_astore_n (lv' := [some (.ref (ad 0 0 0)), some (.int p0), some (.ref (ad 200 0 0)), some (.ref q)]) (pc' := 13) K dX0_won_12 rfl (by decide) rfl rfl ?_
      refine zw_iconst (v := 1) (pc' := 14) K dX0_won_13 (by decide) rfl ?_
      exact zw_iret K hE dX0_won_14 ⟨Nat.le_of_ble_eq_true rfl, Nat.le_of_ble_eq_true rfl⟩ (⟨by rw [hcd]; rfl, by rw [h2, if_neg (by rw [hcd]; decide)]; exact hW1.x⟩)
    · cases hi
set_option maxHeartbeats 2000000 in
theorem ct_X0_suspicion {w : zw_W} {la : Launch} (hl : la.stackTraces = false) {M : zw_M} {ad : Nat → Nat → Nat → Nat} {σ μ : zS} {th : Int32} {o : Int64} (hW : zW w M ad σ μ th o) (hI : zI σ) (p0 p1 : Int32) : zw_CW w la yX0_suspicion cX0_suspicion 5 (Option.some Jvm.ClassFile.FieldType.int) [((0 : Nat), (10 : Nat), (13 : Nat), (21 : Nat))] (zr 10 3 18) [.ref (ad 0 0 0), .int p0, .int p1, .ref (ad 200 0 0)] M (zw_pi (zPw w ad μ th o (zop_suspicion σ p0 p1))) zw_no := by
  refine zw_enterW RX0 rfl (by decide) hl (by simp [Value.category]) (Nat.le_of_ble_eq_true rfl) (fun X hXl hXw K hE htab => ?_)
  subst hXl; subst hXw
  show zw_Z X _ 0 0 0 [some (.ref (ad 0 0 0)), some (.int p0), some (.int p1), some (.ref (ad 200 0 0)), none] []
  refine zw_aload_n (v := .ref (ad 200 0 0)) (pc' := 1) K dX0_suspicion_0 rfl rfl rfl ?_
  refine zw_iconst (v := 0) (pc' := 2) K dX0_suspicion_1 (by decide) rfl ?_
  refine zw_aload_n (v := .ref (ad 0 0 0)) (pc' := 3) K dX0_suspicion_2 rfl rfl rfl ?_
  refine zw_iload_n (x := p0) (pc' := 4) K dX0_suspicion_3 rfl rfl ?_
  refine zw_iload_n (x := p1) (pc' := 5) K dX0_suspicion_4 rfl rfl ?_
  refine zc_X0_40 (rest := [.int 0, .ref (ad 200 0 0)]) (c' := 3) (n' := 18) (pc' := 8) K (ct_X1_suspicion hl hW hI p0 p1) hW.c0 rfl rfl dX0_suspicion_5 rfl (Nat.le_of_ble_eq_true rfl) ⟨Nat.le_of_ble_eq_true rfl, Nat.le_of_ble_eq_true rfl⟩ ⟨Nat.le_of_ble_eq_true rfl, Nat.le_of_ble_eq_true rfl, Nat.le_of_ble_eq_true rfl, Nat.le_of_ble_eq_true rfl⟩ (zw_ki fun r Ma h => ?_) (fun E M1 h => ?_)
  · obtain ⟨h0, hr, hx⟩ := h
    have hO : Ma (ad 200 0 0) = some (zw_eJ (zw_Xw X) 1 (zgo o)) := by obtain ⟨ad', -, -, h3, hW'⟩ := hx; rw [← h3]; exact hW'.mout
    refine zw_i2l (pc' := 9) K dX0_suspicion_8 rfl ?_
    refine zn_last (j := 0) (pc' := 10) K hO rfl (by decide) dX0_suspicion_9 rfl ?_
    refine zw_nmM (fun M21 eM21 => ?_)
    have f22 : M21 (ad 200 0 0) = some (zw_eJ (zw_Xw X) 1 (vp_updL (zgo o) 0 r.toInt64)) := by rw [eM21]; exact zw_us
    refine zw_goto (tgt := 17) K dX0_suspicion_10 (by decide) ?_
    refine zw_iconst (v := 0) (pc' := 18) K dX0_suspicion_17 (by decide) rfl ?_
    exact zw_iret K hE dX0_suspicion_18 ⟨Nat.le_of_ble_eq_true rfl, Nat.le_of_ble_eq_true rfl⟩ (⟨h0.symm, by rw [if_pos h0]; exact hx.out (by rw [eM21]) (by rw [hr])⟩)
  · obtain ⟨⟨i, hi, hcd⟩, h1, h2, hW1⟩ := h
    rcases i with _ | i
    · cases hi
      refine zw_catch K (name := "java/lang/IllegalArgumentException") htab [] (zw_ete (0, 10, 13, 21)) [] rfl (fun z hz => absurd hz List.not_mem_nil) (by decide) (by decide) q381 q410 (fun q => ?_)
      refine zw_astore (lv' := [some (.ref (ad 0 0 0)), some (.int p0), some (.int p1), some (.ref (ad 200 0 0)), some (.ref q)]) (pc' := 15) K dX0_suspicion_13 rfl (by decide) rfl rfl ?_
      refine zw_iconst (v := 1) (pc' := 16) K dX0_suspicion_15 (by decide) rfl ?_
      exact zw_iret K hE dX0_suspicion_16 ⟨Nat.le_of_ble_eq_true rfl, Nat.le_of_ble_eq_true rfl⟩ (⟨by rw [hcd]; rfl, by rw [h2, if_neg (by rw [hcd]; decide)]; exact hW1.x⟩)
    · cases hi
set_option maxHeartbeats 2000000 in
theorem ct_X0_sign {w : zw_W} {la : Launch} (hl : la.stackTraces = false) {M : zw_M} {ad : Nat → Nat → Nat → Nat} {σ μ : zS} {th : Int32} {o : Int64} (hW : zW w M ad σ μ th o) (hI : zI σ) (p0 p1 p2 : Int32) : zw_CW w la yX0_sign cX0_sign 6 (Option.some Jvm.ClassFile.FieldType.int) [((0 : Nat), (12 : Nat), (15 : Nat), (19 : Nat)), ((0 : Nat), (12 : Nat), (19 : Nat), (21 : Nat))] (zr 10 4 24) [.ref (ad 0 0 0), .int p0, .int p1, .int p2, .ref (ad 200 0 0)] M (zw_pi (zPw w ad μ th o (zop_sign σ p0 p1 p2))) zw_no := by
  refine zw_enterW RX0 rfl (by decide) hl (by simp [Value.category]) (Nat.le_of_ble_eq_true rfl) (fun X hXl hXw K hE htab => ?_)
  subst hXl; subst hXw
  show zw_Z X _ 0 0 0 [some (.ref (ad 0 0 0)), some (.int p0), some (.int p1), some (.int p2), some (.ref (ad 200 0 0)), none] []
  refine zw_aload (v := .ref (ad 200 0 0)) (pc' := 2) K dX0_sign_0 rfl rfl rfl ?_
  refine zw_iconst (v := 0) (pc' := 3) K dX0_sign_2 (by decide) rfl ?_
  refine zw_aload_n (v := .ref (ad 0 0 0)) (pc' := 4) K dX0_sign_3 rfl rfl rfl ?_
  refine zw_iload_n (x := p0) (pc' := 5) K dX0_sign_4 rfl rfl ?_
  refine zw_iload_n (x := p1) (pc' := 6) K dX0_sign_5 rfl rfl ?_
  refine zw_iload_n (x := p2) (pc' := 7) K dX0_sign_6 rfl rfl ?_
  refine zc_X0_43 (rest := [.int 0, .ref (ad 200 0 0)]) (c' := 4) (n' := 24) (pc' := 10) K (ct_X1_sign hl hW hI p0 p1 p2) hW.c0 rfl rfl dX0_sign_7 rfl (Nat.le_of_ble_eq_true rfl) ⟨Nat.le_of_ble_eq_true rfl, Nat.le_of_ble_eq_true rfl⟩ ⟨Nat.le_of_ble_eq_true rfl, Nat.le_of_ble_eq_true rfl, Nat.le_of_ble_eq_true rfl, Nat.le_of_ble_eq_true rfl⟩ (zw_ki fun r Ma h => ?_) (fun E M1 h => ?_)
  · obtain ⟨h0, hr, hx⟩ := h
    have hO : Ma (ad 200 0 0) = some (zw_eJ (zw_Xw X) 1 (zgo o)) := by obtain ⟨ad', -, -, h3, hW'⟩ := hx; rw [← h3]; exact hW'.mout
    refine zw_i2l (pc' := 11) K dX0_sign_10 rfl ?_
    refine zn_last (j := 0) (pc' := 12) K hO rfl (by decide) dX0_sign_11 rfl ?_
    refine zw_nmM (fun M21 eM21 => ?_)
    have f22 : M21 (ad 200 0 0) = some (zw_eJ (zw_Xw X) 1 (vp_updL (zgo o) 0 r.toInt64)) := by rw [eM21]; exact zw_us
    refine zw_goto (tgt := 23) K dX0_sign_12 (by decide) ?_
    refine zw_iconst (v := 0) (pc' := 24) K dX0_sign_23 (by decide) rfl ?_
    exact zw_iret K hE dX0_sign_24 ⟨Nat.le_of_ble_eq_true rfl, Nat.le_of_ble_eq_true rfl⟩ (⟨h0.symm, by rw [if_pos h0]; exact hx.out (by rw [eM21]) (by rw [hr])⟩)
  · obtain ⟨⟨i, hi, hcd⟩, h1, h2, hW1⟩ := h
    rcases i with _ | i
    · cases hi
      refine zw_catch K (name := "java/lang/IndexOutOfBoundsException") htab [] (zw_ete (0, 12, 15, 19)) [zw_ete (0, 12, 19, 21)] rfl (fun z hz => absurd hz List.not_mem_nil) (by decide) (by decide) q357 q391 (fun q => ?_)
      refine zw_astore (lv' := [some (.ref (ad 0 0 0)), some (.int p0), some (.int p1), some (.int p2), some (.ref (ad 200 0 0)), some (.ref q)]) (pc' := 17) K dX0_sign_15 rfl (by decide) rfl rfl ?_
      refine zw_iconst (v := 1) (pc' := 18) K dX0_sign_17 (by decide) rfl ?_
      exact zw_iret K hE dX0_sign_18 ⟨Nat.le_of_ble_eq_true rfl, Nat.le_of_ble_eq_true rfl⟩ (⟨by rw [hcd]; rfl, by rw [h2, if_neg (by rw [hcd]; decide)]; exact hW1.x⟩)
    · rcases i with _ | i
      · cases hi
        refine zw_catch K (name := "java/lang/IllegalArgumentException") htab [zw_ete (0, 12, 15, 19)] (zw_ete (0, 12, 19, 21)) [] rfl (fun z hz => by rcases List.mem_cons.mp hz with rfl | hz; exact Or.inr ⟨by decide, _, q357, by decide⟩; exact absurd hz List.not_mem_nil) (by decide) (by decide) q381 q410 (fun q => ?_)
        refine zw_astore (lv' := [some (.ref (ad 0 0 0)), some (.int p0), some (.int p1), some (.int p2), some (.ref (ad 200 0 0)), some (.ref q)]) (pc' := 21) K dX0_sign_19 rfl (by decide) rfl rfl ?_
        refine zw_iconst (v := 2) (pc' := 22) K dX0_sign_21 (by decide) rfl ?_
        exact zw_iret K hE dX0_sign_22 ⟨Nat.le_of_ble_eq_true rfl, Nat.le_of_ble_eq_true rfl⟩ (⟨by rw [hcd]; rfl, by rw [h2, if_neg (by rw [hcd]; decide)]; exact hW1.x⟩)
      · cases hi
set_option maxHeartbeats 2000000 in
theorem ct_X0_setMark {w : zw_W} {la : Launch} (hl : la.stackTraces = false) {M : zw_M} {ad : Nat → Nat → Nat → Nat} {σ μ : zS} {th : Int32} {o : Int64} (hW : zW w M ad σ μ th o) (hI : zI σ) (p0 : Int32) : zw_CW w la yX0_setMark cX0_setMark 4 (Option.some Jvm.ClassFile.FieldType.int) [((0 : Nat), (9 : Nat), (12 : Nat), (21 : Nat))] (zr 9 1 6) [.ref (ad 0 0 0), .int p0, .ref (ad 200 0 0)] M (zw_pi (zPw w ad μ th o (zop_setMark σ p0))) zw_no := by
  refine zw_enterW RX0 rfl (by decide) hl (by simp [Value.category]) (Nat.le_of_ble_eq_true rfl) (fun X hXl hXw K hE htab => ?_)
  subst hXl; subst hXw
  show zw_Z X _ 0 0 0 [some (.ref (ad 0 0 0)), some (.int p0), some (.ref (ad 200 0 0)), none] []
  refine zw_aload_n (v := .ref (ad 200 0 0)) (pc' := 1) K dX0_setMark_0 rfl rfl rfl ?_
  refine zw_iconst (v := 0) (pc' := 2) K dX0_setMark_1 (by decide) rfl ?_
  refine zw_aload_n (v := .ref (ad 0 0 0)) (pc' := 3) K dX0_setMark_2 rfl rfl rfl ?_
  refine zw_iload_n (x := p0) (pc' := 4) K dX0_setMark_3 rfl rfl ?_
  refine zc_X0_46 (rest := [.int 0, .ref (ad 200 0 0)]) (c' := 1) (n' := 6) (pc' := 7) K (ct_X1_setMark hl hW p0) hW.c0 rfl rfl dX0_setMark_4 rfl (Nat.le_of_ble_eq_true rfl) ⟨Nat.le_of_ble_eq_true rfl, Nat.le_of_ble_eq_true rfl⟩ ⟨Nat.le_of_ble_eq_true rfl, Nat.le_of_ble_eq_true rfl, Nat.le_of_ble_eq_true rfl, Nat.le_of_ble_eq_true rfl⟩ (zw_ki fun r Ma h => ?_) (fun E M1 h => ?_)
  · obtain ⟨h0, hr, hx⟩ := h
    have hO : Ma (ad 200 0 0) = some (zw_eJ (zw_Xw X) 1 (zgo o)) := by obtain ⟨ad', -, -, h3, hW'⟩ := hx; rw [← h3]; exact hW'.mout
    refine zw_i2l (pc' := 8) K dX0_setMark_7 rfl ?_
    refine zn_last (j := 0) (pc' := 9) K hO rfl (by decide) dX0_setMark_8 rfl ?_
    refine zw_nmM (fun M21 eM21 => ?_)
    have f22 : M21 (ad 200 0 0) = some (zw_eJ (zw_Xw X) 1 (vp_updL (zgo o) 0 r.toInt64)) := by rw [eM21]; exact zw_us
    refine zw_goto (tgt := 15) K dX0_setMark_9 (by decide) ?_
    refine zw_iconst (v := 0) (pc' := 16) K dX0_setMark_15 (by decide) rfl ?_
    exact zw_iret K hE dX0_setMark_16 ⟨Nat.le_of_ble_eq_true rfl, Nat.le_of_ble_eq_true rfl⟩ (⟨h0.symm, by rw [if_pos h0]; exact hx.out (by rw [eM21]) (by rw [hr])⟩)
  · obtain ⟨⟨i, hi, hcd⟩, h1, h2, hW1⟩ := h
    rcases i with _ | i
    · cases hi
      refine zw_catch K (name := "java/lang/IllegalArgumentException") htab [] (zw_ete (0, 9, 12, 21)) [] rfl (fun z hz => absurd hz List.not_mem_nil) (by decide) (by decide) q381 q410 (fun q => ?_)
      refine zw_astore_n (lv' := [some (.ref (ad 0 0 0)), some (.int p0), some (.ref (ad 200 0 0)), some (.ref q)]) (pc' := 13) K dX0_setMark_12 rfl (by decide) rfl rfl ?_
      refine zw_iconst (v := 1) (pc' := 14) K dX0_setMark_13 (by decide) rfl ?_
      exact zw_iret K hE dX0_setMark_14 ⟨Nat.le_of_ble_eq_true rfl, Nat.le_of_ble_eq_true rfl⟩ (⟨by rw [hcd]; rfl, by rw [h2, if_neg (by rw [hcd]; decide)]; exact hW1.x⟩)
    · cases hi
set_option maxHeartbeats 2000000 in
theorem ct_X0_file {w : zw_W} {la : Launch} (hl : la.stackTraces = false) {M : zw_M} {ad : Nat → Nat → Nat → Nat} {σ μ : zS} {th : Int32} {o : Int64} (hW : zW w M ad σ μ th o) (hI : zI σ) (p0 p1 : Int32) : zw_CW w la yX0_file cX0_file 5 (Option.some Jvm.ClassFile.FieldType.int) [((0 : Nat), (10 : Nat), (13 : Nat), (21 : Nat)), ((0 : Nat), (10 : Nat), (17 : Nat), (13 : Nat))] (zrl 10 41 2037) [.ref (ad 0 0 0), .int p0, .int p1, .ref (ad 200 0 0)] M (zw_pi (zPw w ad μ th o (zop_file σ p0 p1))) zw_no := by
  refine zw_enterW RX0 rfl (by decide) hl (by simp [Value.category]) (Nat.le_of_ble_eq_true rfl) (fun X hXl hXw K hE htab => ?_)
  subst hXl; subst hXw
  show zw_Z X _ 0 0 0 [some (.ref (ad 0 0 0)), some (.int p0), some (.int p1), some (.ref (ad 200 0 0)), none] []
  refine zw_aload_n (v := .ref (ad 200 0 0)) (pc' := 1) K dX0_file_0 rfl rfl rfl ?_
  refine zw_iconst (v := 0) (pc' := 2) K dX0_file_1 (by decide) rfl ?_
  refine zw_aload_n (v := .ref (ad 0 0 0)) (pc' := 3) K dX0_file_2 rfl rfl rfl ?_
  refine zw_iload_n (x := p0) (pc' := 4) K dX0_file_3 rfl rfl ?_
  refine zw_iload_n (x := p1) (pc' := 5) K dX0_file_4 rfl rfl ?_
  refine zc_X0_49 (rest := [.int 0, .ref (ad 200 0 0)]) (c' := 41) (n' := 2037) (pc' := 8) K (ct_X1_file hl hW hI p0 p1) hW.c0 rfl rfl dX0_file_5 rfl (Nat.le_of_ble_eq_true rfl) ⟨Nat.le_of_ble_eq_true rfl, Nat.le_of_ble_eq_true rfl⟩ ⟨Nat.le_of_ble_eq_true rfl, Nat.le_of_ble_eq_true rfl, Nat.le_of_ble_eq_true rfl, Nat.le_of_ble_eq_true rfl⟩ (zw_ki fun r Ma h => ?_) (fun E M1 h => ?_)
  · obtain ⟨h0, hr, hx⟩ := h
    have hO : Ma (ad 200 0 0) = some (zw_eJ (zw_Xw X) 1 (zgo o)) := by obtain ⟨ad', -, -, h3, hW'⟩ := hx; rw [← h3]; exact hW'.mout
    refine zw_i2l (pc' := 9) K dX0_file_8 rfl ?_
    refine zn_last (j := 0) (pc' := 10) K hO rfl (by decide) dX0_file_9 rfl ?_
    refine zw_nmM (fun M21 eM21 => ?_)
    have f22 : M21 (ad 200 0 0) = some (zw_eJ (zw_Xw X) 1 (vp_updL (zgo o) 0 r.toInt64)) := by rw [eM21]; exact zw_us
    refine zw_goto (tgt := 21) K dX0_file_10 (by decide) ?_
    refine zw_iconst (v := 0) (pc' := 22) K dX0_file_21 (by decide) rfl ?_
    exact zw_iret K hE dX0_file_22 ⟨Nat.le_of_ble_eq_true rfl, Nat.le_of_ble_eq_true rfl⟩ (⟨h0.symm, by rw [if_pos h0]; exact hx.out (by rw [eM21]) (by rw [hr])⟩)
  · obtain ⟨⟨i, hi, hcd⟩, h1, h2, hW1⟩ := h
    rcases i with _ | i
    · cases hi
      refine zw_catch K (name := "java/lang/IllegalArgumentException") htab [] (zw_ete (0, 10, 13, 21)) [zw_ete (0, 10, 17, 13)] rfl (fun z hz => absurd hz List.not_mem_nil) (by decide) (by decide) q381 q410 (fun q => ?_)
      refine zw_astore (lv' := [some (.ref (ad 0 0 0)), some (.int p0), some (.int p1), some (.ref (ad 200 0 0)), some (.ref q)]) (pc' := 15) K dX0_file_13 rfl (by decide) rfl rfl ?_
      refine zw_iconst (v := 1) (pc' := 16) K dX0_file_15 (by decide) rfl ?_
      exact zw_iret K hE dX0_file_16 ⟨Nat.le_of_ble_eq_true rfl, Nat.le_of_ble_eq_true rfl⟩ (⟨by rw [hcd]; rfl, by rw [h2, if_neg (by rw [hcd]; decide)]; exact hW1.x⟩)
    · rcases i with _ | i
      · cases hi
        refine zw_catch K (name := "java/lang/IllegalStateException") htab [zw_ete (0, 10, 13, 21)] (zw_ete (0, 10, 17, 13)) [] rfl (fun z hz => by rcases List.mem_cons.mp hz with rfl | hz; exact Or.inr ⟨by decide, _, q381, by decide⟩; exact absurd hz List.not_mem_nil) (by decide) (by decide) q190 q200 (fun q => ?_)
        refine zw_astore (lv' := [some (.ref (ad 0 0 0)), some (.int p0), some (.int p1), some (.ref (ad 200 0 0)), some (.ref q)]) (pc' := 19) K dX0_file_17 rfl (by decide) rfl rfl ?_
        refine zw_iconst (v := 2) (pc' := 20) K dX0_file_19 (by decide) rfl ?_
        exact zw_iret K hE dX0_file_20 ⟨Nat.le_of_ble_eq_true rfl, Nat.le_of_ble_eq_true rfl⟩ (⟨by rw [hcd]; rfl, by rw [h2, if_neg (by rw [hcd]; decide)]; exact hW1.x⟩)
      · cases hi
set_option maxHeartbeats 2000000 in
theorem ct_X0_matters {w : zw_W} {la : Launch} (hl : la.stackTraces = false) {M : zw_M} {ad : Nat → Nat → Nat → Nat} {σ μ : zS} {th : Int32} {o : Int64} (hW : zW w M ad σ μ th o) (hI : zI σ) (p0 : Int32) : zw_CW w la yX0_matters cX0_matters 4 (Option.some Jvm.ClassFile.FieldType.int) [((0 : Nat), (9 : Nat), (12 : Nat), (19 : Nat))] (zr 9 1 6) [.ref (ad 0 0 0), .int p0, .ref (ad 200 0 0)] M (zw_pi (zPw w ad μ th o (zop_matters σ p0))) zw_no := by
  refine zw_enterW RX0 rfl (by decide) hl (by simp [Value.category]) (Nat.le_of_ble_eq_true rfl) (fun X hXl hXw K hE htab => ?_)
  subst hXl; subst hXw
  show zw_Z X _ 0 0 0 [some (.ref (ad 0 0 0)), some (.int p0), some (.ref (ad 200 0 0)), none] []
  refine zw_aload_n (v := .ref (ad 200 0 0)) (pc' := 1) K dX0_matters_0 rfl rfl rfl ?_
  refine zw_iconst (v := 0) (pc' := 2) K dX0_matters_1 (by decide) rfl ?_
  refine zw_aload_n (v := .ref (ad 0 0 0)) (pc' := 3) K dX0_matters_2 rfl rfl rfl ?_
  refine zw_iload_n (x := p0) (pc' := 4) K dX0_matters_3 rfl rfl ?_
  refine zc_X0_52 (rest := [.int 0, .ref (ad 200 0 0)]) (c' := 1) (n' := 6) (pc' := 7) K (ct_X1_matters hl hW hI p0) hW.c0 rfl rfl dX0_matters_4 rfl (Nat.le_of_ble_eq_true rfl) ⟨Nat.le_of_ble_eq_true rfl, Nat.le_of_ble_eq_true rfl⟩ ⟨Nat.le_of_ble_eq_true rfl, Nat.le_of_ble_eq_true rfl, Nat.le_of_ble_eq_true rfl, Nat.le_of_ble_eq_true rfl⟩ (zw_ki fun r Ma h => ?_) (fun E M1 h => ?_)
  · obtain ⟨h0, hr, hx⟩ := h
    have hO : Ma (ad 200 0 0) = some (zw_eJ (zw_Xw X) 1 (zgo o)) := by obtain ⟨ad', -, -, h3, hW'⟩ := hx; rw [← h3]; exact hW'.mout
    refine zw_i2l (pc' := 8) K dX0_matters_7 rfl ?_
    refine zn_last (j := 0) (pc' := 9) K hO rfl (by decide) dX0_matters_8 rfl ?_
    refine zw_nmM (fun M21 eM21 => ?_)
    have f22 : M21 (ad 200 0 0) = some (zw_eJ (zw_Xw X) 1 (vp_updL (zgo o) 0 r.toInt64)) := by rw [eM21]; exact zw_us
    refine zw_goto (tgt := 15) K dX0_matters_9 (by decide) ?_
    refine zw_iconst (v := 0) (pc' := 16) K dX0_matters_15 (by decide) rfl ?_
    exact zw_iret K hE dX0_matters_16 ⟨Nat.le_of_ble_eq_true rfl, Nat.le_of_ble_eq_true rfl⟩ (⟨h0.symm, by rw [if_pos h0]; exact hx.out (by rw [eM21]) (by rw [hr])⟩)
  · obtain ⟨⟨i, hi, hcd⟩, h1, h2, hW1⟩ := h
    rcases i with _ | i
    · cases hi
      refine zw_catch K (name := "java/lang/IndexOutOfBoundsException") htab [] (zw_ete (0, 9, 12, 19)) [] rfl (fun z hz => absurd hz List.not_mem_nil) (by decide) (by decide) q357 q391 (fun q => ?_)
      refine zw_astore_n (lv' := [some (.ref (ad 0 0 0)), some (.int p0), some (.ref (ad 200 0 0)), some (.ref q)]) (pc' := 13) K dX0_matters_12 rfl (by decide) rfl rfl ?_
      refine zw_iconst (v := 1) (pc' := 14) K dX0_matters_13 (by decide) rfl ?_
      exact zw_iret K hE dX0_matters_14 ⟨Nat.le_of_ble_eq_true rfl, Nat.le_of_ble_eq_true rfl⟩ (⟨by rw [hcd]; rfl, by rw [h2, if_neg (by rw [hcd]; decide)]; exact hW1.x⟩)
    · cases hi
set_option maxHeartbeats 2000000 in
theorem ct_X0_tell {w : zw_W} {la : Launch} (hl : la.stackTraces = false) {M : zw_M} {ad : Nat → Nat → Nat → Nat} {σ μ : zS} {th : Int32} {o : Int64} (hW : zW w M ad σ μ th o) (hI : zI σ) (p0 p1 p2 : Int32) : zw_CW w la yX0_tell cX0_tell 6 (Option.some Jvm.ClassFile.FieldType.int) [((0 : Nat), (19 : Nat), (22 : Nat), (19 : Nat)), ((0 : Nat), (19 : Nat), (26 : Nat), (21 : Nat)), ((0 : Nat), (19 : Nat), (30 : Nat), (13 : Nat))] (zr 9 5 88) [.ref (ad 0 0 0), .int p0, .int p1, .int p2, .ref (ad 200 0 0)] M (zw_pi (zPw w ad μ th o (zop_tell σ p0 p1 p2))) zw_no := by
  refine zw_enterW RX0 rfl (by decide) hl (by simp [Value.category]) (Nat.le_of_ble_eq_true rfl) (fun X hXl hXw K hE htab => ?_)
  subst hXl; subst hXw
  show zw_Z X _ 0 0 0 [some (.ref (ad 0 0 0)), some (.int p0), some (.int p1), some (.int p2), some (.ref (ad 200 0 0)), none] []
  refine zw_aload (v := .ref (ad 200 0 0)) (pc' := 2) K dX0_tell_0 rfl rfl rfl ?_
  refine zw_iconst (v := 0) (pc' := 3) K dX0_tell_2 (by decide) rfl ?_
  refine zw_aload_n (v := .ref (ad 0 0 0)) (pc' := 4) K dX0_tell_3 rfl rfl rfl ?_
  refine zw_iload_n (x := p0) (pc' := 5) K dX0_tell_4 rfl rfl ?_
  refine zw_iload_n (x := p1) (pc' := 6) K dX0_tell_5 rfl rfl ?_
  refine zw_iload_n (x := p2) (pc' := 7) K dX0_tell_6 rfl rfl ?_
  refine zc_X0_55 (rest := [.int 0, .ref (ad 200 0 0)]) (c' := 5) (n' := 88) (pc' := 10) K (ct_X1_tell hl hW hI p0 p1 p2) hW.c0 rfl rfl dX0_tell_7 rfl (Nat.le_of_ble_eq_true rfl) ⟨Nat.le_of_ble_eq_true rfl, Nat.le_of_ble_eq_true rfl⟩ ⟨Nat.le_of_ble_eq_true rfl, Nat.le_of_ble_eq_true rfl, Nat.le_of_ble_eq_true rfl, Nat.le_of_ble_eq_true rfl⟩ (zw_ki fun r Ma h => ?_) (fun E M1 h => ?_)
  · obtain ⟨h0, hr, hx⟩ := h
    have hO : Ma (ad 200 0 0) = some (zw_eJ (zw_Xw X) 1 (zgo o)) := by obtain ⟨ad', -, -, h3, hW'⟩ := hx; rw [← h3]; exact hW'.mout
    refine zw_if_eq (tgt := 17) (pc' := 13) K dX0_tell_10 (by decide) rfl (fun c10 => ?_) (fun c10 => ?_)
    · refine zw_lconst (v := 0) (pc' := 18) K dX0_tell_17 (by decide) rfl ?_
      refine zn_last (j := 0) (pc' := 19) K hO rfl (by decide) dX0_tell_18 rfl ?_
      refine zw_nmM (fun M21 eM21 => ?_)
      have f22 : M21 (ad 200 0 0) = some (zw_eJ (zw_Xw X) 1 (vp_updL (zgo o) 0 0)) := by rw [eM21]; exact zw_us
      refine zw_goto (tgt := 34) K dX0_tell_19 (by decide) ?_
      refine zw_iconst (v := 0) (pc' := 35) K dX0_tell_34 (by decide) rfl ?_
      exact zw_iret K hE dX0_tell_35 ⟨Nat.le_of_ble_eq_true rfl, Nat.le_of_ble_eq_true rfl⟩ (⟨h0.symm, by rw [if_pos h0]; exact hx.out (by rw [eM21]) (by rw [← hr, c10]; rfl)⟩)
    · refine zw_lconst (v := 1) (pc' := 14) K dX0_tell_13 (by decide) rfl ?_
      refine zw_goto (tgt := 18) K dX0_tell_14 (by decide) ?_
      refine zn_last (j := 0) (pc' := 19) K hO rfl (by decide) dX0_tell_18 rfl ?_
      refine zw_nmM (fun M23 eM23 => ?_)
      have f24 : M23 (ad 200 0 0) = some (zw_eJ (zw_Xw X) 1 (vp_updL (zgo o) 0 1)) := by rw [eM23]; exact zw_us
      refine zw_goto (tgt := 34) K dX0_tell_19 (by decide) ?_
      refine zw_iconst (v := 0) (pc' := 35) K dX0_tell_34 (by decide) rfl ?_
      exact zw_iret K hE dX0_tell_35 ⟨Nat.le_of_ble_eq_true rfl, Nat.le_of_ble_eq_true rfl⟩ (⟨h0.symm, by rw [if_pos h0]; exact hx.out (by rw [eM23]) (by rw [hr] at c10; rw [ztell_01 c10]; rfl)⟩)
  · obtain ⟨⟨i, hi, hcd⟩, h1, h2, hW1⟩ := h
    rcases i with _ | i
    · cases hi
      refine zw_catch K (name := "java/lang/IndexOutOfBoundsException") htab [] (zw_ete (0, 19, 22, 19)) [zw_ete (0, 19, 26, 21), zw_ete (0, 19, 30, 13)] rfl (fun z hz => absurd hz List.not_mem_nil) (by decide) (by decide) q357 q391 (fun q => ?_)
      refine zw_astore (lv' := [some (.ref (ad 0 0 0)), some (.int p0), some (.int p1), some (.int p2), some (.ref (ad 200 0 0)), some (.ref q)]) (pc' := 24) K dX0_tell_22 rfl (by decide) rfl rfl ?_
      refine zw_iconst (v := 1) (pc' := 25) K dX0_tell_24 (by decide) rfl ?_
      exact zw_iret K hE dX0_tell_25 ⟨Nat.le_of_ble_eq_true rfl, Nat.le_of_ble_eq_true rfl⟩ (⟨by rw [hcd]; rfl, by rw [h2, if_neg (by rw [hcd]; decide)]; exact hW1.x⟩)
    · rcases i with _ | i
      · cases hi
        refine zw_catch K (name := "java/lang/IllegalArgumentException") htab [zw_ete (0, 19, 22, 19)] (zw_ete (0, 19, 26, 21)) [zw_ete (0, 19, 30, 13)] rfl (fun z hz => by rcases List.mem_cons.mp hz with rfl | hz; exact Or.inr ⟨by decide, _, q357, by decide⟩; exact absurd hz List.not_mem_nil) (by decide) (by decide) q381 q410 (fun q => ?_)
        refine zw_astore (lv' := [some (.ref (ad 0 0 0)), some (.int p0), some (.int p1), some (.int p2), some (.ref (ad 200 0 0)), some (.ref q)]) (pc' := 28) K dX0_tell_26 rfl (by decide) rfl rfl ?_
        refine zw_iconst (v := 2) (pc' := 29) K dX0_tell_28 (by decide) rfl ?_
        exact zw_iret K hE dX0_tell_29 ⟨Nat.le_of_ble_eq_true rfl, Nat.le_of_ble_eq_true rfl⟩ (⟨by rw [hcd]; rfl, by rw [h2, if_neg (by rw [hcd]; decide)]; exact hW1.x⟩)
      · rcases i with _ | i
        · cases hi
          refine zw_catch K (name := "java/lang/IllegalStateException") htab [zw_ete (0, 19, 22, 19), zw_ete (0, 19, 26, 21)] (zw_ete (0, 19, 30, 13)) [] rfl (fun z hz => by rcases List.mem_cons.mp hz with rfl | hz; exact Or.inr ⟨by decide, _, q357, by decide⟩; rcases List.mem_cons.mp hz with rfl | hz; exact Or.inr ⟨by decide, _, q381, by decide⟩; exact absurd hz List.not_mem_nil) (by decide) (by decide) q190 q200 (fun q => ?_)
          refine zw_astore (lv' := [some (.ref (ad 0 0 0)), some (.int p0), some (.int p1), some (.int p2), some (.ref (ad 200 0 0)), some (.ref q)]) (pc' := 32) K dX0_tell_30 rfl (by decide) rfl rfl ?_
          refine zw_iconst (v := 3) (pc' := 33) K dX0_tell_32 (by decide) rfl ?_
          exact zw_iret K hE dX0_tell_33 ⟨Nat.le_of_ble_eq_true rfl, Nat.le_of_ble_eq_true rfl⟩ (⟨by rw [hcd]; rfl, by rw [h2, if_neg (by rw [hcd]; decide)]; exact hW1.x⟩)
        · cases hi
set_option maxHeartbeats 2000000 in
theorem ct_X0_compensate {w : zw_W} {la : Launch} (hl : la.stackTraces = false) {M : zw_M} {ad : Nat → Nat → Nat → Nat} {σ μ : zS} {th : Int32} {o : Int64} (hW : zW w M ad σ μ th o) (hI : zI σ) (p0 p1 : Int32) : zw_CW w la yX0_compensate cX0_compensate 5 (Option.some Jvm.ClassFile.FieldType.int) [((0 : Nat), (10 : Nat), (13 : Nat), (21 : Nat))] (zr 9 2 12) [.ref (ad 0 0 0), .int p0, .int p1, .ref (ad 200 0 0)] M (zw_pi (zPw w ad μ th o (zop_compensate σ p0 p1))) zw_no := by
  refine zw_enterW RX0 rfl (by decide) hl (by simp [Value.category]) (Nat.le_of_ble_eq_true rfl) (fun X hXl hXw K hE htab => ?_)
  subst hXl; subst hXw
  show zw_Z X _ 0 0 0 [some (.ref (ad 0 0 0)), some (.int p0), some (.int p1), some (.ref (ad 200 0 0)), none] []
  refine zw_aload_n (v := .ref (ad 200 0 0)) (pc' := 1) K dX0_compensate_0 rfl rfl rfl ?_
  refine zw_iconst (v := 0) (pc' := 2) K dX0_compensate_1 (by decide) rfl ?_
  refine zw_aload_n (v := .ref (ad 0 0 0)) (pc' := 3) K dX0_compensate_2 rfl rfl rfl ?_
  refine zw_iload_n (x := p0) (pc' := 4) K dX0_compensate_3 rfl rfl ?_
  refine zw_iload_n (x := p1) (pc' := 5) K dX0_compensate_4 rfl rfl ?_
  refine zc_X0_59 (rest := [.int 0, .ref (ad 200 0 0)]) (c' := 2) (n' := 12) (pc' := 8) K (ct_X1_compensate hl hW p0 p1) hW.c0 rfl rfl dX0_compensate_5 rfl (Nat.le_of_ble_eq_true rfl) ⟨Nat.le_of_ble_eq_true rfl, Nat.le_of_ble_eq_true rfl⟩ ⟨Nat.le_of_ble_eq_true rfl, Nat.le_of_ble_eq_true rfl, Nat.le_of_ble_eq_true rfl, Nat.le_of_ble_eq_true rfl⟩ (zw_ki fun r Ma h => ?_) (fun E M1 h => ?_)
  · obtain ⟨h0, hr, hx⟩ := h
    have hO : Ma (ad 200 0 0) = some (zw_eJ (zw_Xw X) 1 (zgo o)) := by obtain ⟨ad', -, -, h3, hW'⟩ := hx; rw [← h3]; exact hW'.mout
    refine zw_i2l (pc' := 9) K dX0_compensate_8 rfl ?_
    refine zn_last (j := 0) (pc' := 10) K hO rfl (by decide) dX0_compensate_9 rfl ?_
    refine zw_nmM (fun M21 eM21 => ?_)
    have f22 : M21 (ad 200 0 0) = some (zw_eJ (zw_Xw X) 1 (vp_updL (zgo o) 0 r.toInt64)) := by rw [eM21]; exact zw_us
    refine zw_goto (tgt := 17) K dX0_compensate_10 (by decide) ?_
    refine zw_iconst (v := 0) (pc' := 18) K dX0_compensate_17 (by decide) rfl ?_
    exact zw_iret K hE dX0_compensate_18 ⟨Nat.le_of_ble_eq_true rfl, Nat.le_of_ble_eq_true rfl⟩ (⟨h0.symm, by rw [if_pos h0]; exact hx.out (by rw [eM21]) (by rw [hr])⟩)
  · obtain ⟨⟨i, hi, hcd⟩, h1, h2, hW1⟩ := h
    rcases i with _ | i
    · cases hi
      refine zw_catch K (name := "java/lang/IllegalArgumentException") htab [] (zw_ete (0, 10, 13, 21)) [] rfl (fun z hz => absurd hz List.not_mem_nil) (by decide) (by decide) q381 q410 (fun q => ?_)
      refine zw_astore (lv' := [some (.ref (ad 0 0 0)), some (.int p0), some (.int p1), some (.ref (ad 200 0 0)), some (.ref q)]) (pc' := 15) K dX0_compensate_13 rfl (by decide) rfl rfl ?_
      refine zw_iconst (v := 1) (pc' := 16) K dX0_compensate_15 (by decide) rfl ?_
      exact zw_iret K hE dX0_compensate_16 ⟨Nat.le_of_ble_eq_true rfl, Nat.le_of_ble_eq_true rfl⟩ (⟨by rw [hcd]; rfl, by rw [h2, if_neg (by rw [hcd]; decide)]; exact hW1.x⟩)
    · cases hi
set_option maxHeartbeats 2000000 in
theorem ct_X0_close {w : zw_W} {la : Launch} (hl : la.stackTraces = false) {M : zw_M} {ad : Nat → Nat → Nat → Nat} {σ μ : zS} {th : Int32} {o : Int64} (hW : zW w M ad σ μ th o) (hI : zI σ) (p0 : Int32) : zw_CW w la yX0_close cX0_close 4 (Option.some Jvm.ClassFile.FieldType.int) [((0 : Nat), (9 : Nat), (12 : Nat), (19 : Nat)), ((0 : Nat), (9 : Nat), (15 : Nat), (13 : Nat))] (zrl 10 4 14) [.ref (ad 0 0 0), .int p0, .ref (ad 200 0 0)] M (zw_pi (zPw w ad μ th o (zop_close σ p0))) zw_no := by
  refine zw_enterW RX0 rfl (by decide) hl (by simp [Value.category]) (Nat.le_of_ble_eq_true rfl) (fun X hXl hXw K hE htab => ?_)
  subst hXl; subst hXw
  show zw_Z X _ 0 0 0 [some (.ref (ad 0 0 0)), some (.int p0), some (.ref (ad 200 0 0)), none] []
  refine zw_aload_n (v := .ref (ad 200 0 0)) (pc' := 1) K dX0_close_0 rfl rfl rfl ?_
  refine zw_iconst (v := 0) (pc' := 2) K dX0_close_1 (by decide) rfl ?_
  refine zw_aload_n (v := .ref (ad 0 0 0)) (pc' := 3) K dX0_close_2 rfl rfl rfl ?_
  refine zw_iload_n (x := p0) (pc' := 4) K dX0_close_3 rfl rfl ?_
  refine zc_X0_62 (rest := [.int 0, .ref (ad 200 0 0)]) (c' := 4) (n' := 14) (pc' := 7) K (ct_X1_close hl hW hI p0) hW.c0 rfl rfl dX0_close_4 rfl (Nat.le_of_ble_eq_true rfl) ⟨Nat.le_of_ble_eq_true rfl, Nat.le_of_ble_eq_true rfl⟩ ⟨Nat.le_of_ble_eq_true rfl, Nat.le_of_ble_eq_true rfl, Nat.le_of_ble_eq_true rfl, Nat.le_of_ble_eq_true rfl⟩ (zw_ki fun r Ma h => ?_) (fun E M1 h => ?_)
  · obtain ⟨h0, hr, hx⟩ := h
    have hO : Ma (ad 200 0 0) = some (zw_eJ (zw_Xw X) 1 (zgo o)) := by obtain ⟨ad', -, -, h3, hW'⟩ := hx; rw [← h3]; exact hW'.mout
    refine zw_i2l (pc' := 8) K dX0_close_7 rfl ?_
    refine zn_last (j := 0) (pc' := 9) K hO rfl (by decide) dX0_close_8 rfl ?_
    refine zw_nmM (fun M21 eM21 => ?_)
    have f22 : M21 (ad 200 0 0) = some (zw_eJ (zw_Xw X) 1 (vp_updL (zgo o) 0 r.toInt64)) := by rw [eM21]; exact zw_us
    refine zw_goto (tgt := 18) K dX0_close_9 (by decide) ?_
    refine zw_iconst (v := 0) (pc' := 19) K dX0_close_18 (by decide) rfl ?_
    exact zw_iret K hE dX0_close_19 ⟨Nat.le_of_ble_eq_true rfl, Nat.le_of_ble_eq_true rfl⟩ (⟨h0.symm, by rw [if_pos h0]; exact hx.out (by rw [eM21]) (by rw [hr])⟩)
  · obtain ⟨⟨i, hi, hcd⟩, h1, h2, hW1⟩ := h
    rcases i with _ | i
    · cases hi
      refine zw_catch K (name := "java/lang/IndexOutOfBoundsException") htab [] (zw_ete (0, 9, 12, 19)) [zw_ete (0, 9, 15, 13)] rfl (fun z hz => absurd hz List.not_mem_nil) (by decide) (by decide) q357 q391 (fun q => ?_)
      refine zw_astore_n (lv' := [some (.ref (ad 0 0 0)), some (.int p0), some (.ref (ad 200 0 0)), some (.ref q)]) (pc' := 13) K dX0_close_12 rfl (by decide) rfl rfl ?_
      refine zw_iconst (v := 1) (pc' := 14) K dX0_close_13 (by decide) rfl ?_
      exact zw_iret K hE dX0_close_14 ⟨Nat.le_of_ble_eq_true rfl, Nat.le_of_ble_eq_true rfl⟩ (⟨by rw [hcd]; rfl, by rw [h2, if_neg (by rw [hcd]; decide)]; exact hW1.x⟩)
    · rcases i with _ | i
      · cases hi
        refine zw_catch K (name := "java/lang/IllegalStateException") htab [zw_ete (0, 9, 12, 19)] (zw_ete (0, 9, 15, 13)) [] rfl (fun z hz => by rcases List.mem_cons.mp hz with rfl | hz; exact Or.inr ⟨by decide, _, q357, by decide⟩; exact absurd hz List.not_mem_nil) (by decide) (by decide) q190 q200 (fun q => ?_)
        refine zw_astore_n (lv' := [some (.ref (ad 0 0 0)), some (.int p0), some (.ref (ad 200 0 0)), some (.ref q)]) (pc' := 16) K dX0_close_15 rfl (by decide) rfl rfl ?_
        refine zw_iconst (v := 2) (pc' := 17) K dX0_close_16 (by decide) rfl ?_
        exact zw_iret K hE dX0_close_17 ⟨Nat.le_of_ble_eq_true rfl, Nat.le_of_ble_eq_true rfl⟩ (⟨by rw [hcd]; rfl, by rw [h2, if_neg (by rw [hcd]; decide)]; exact hW1.x⟩)
      · cases hi
set_option maxHeartbeats 2000000 in
theorem ct_X0_fine {w : zw_W} {la : Launch} (hl : la.stackTraces = false) {M : zw_M} {ad : Nat → Nat → Nat → Nat} {σ μ : zS} {th : Int32} {o : Int64} (hW : zW w M ad σ μ th o) (hI : zI σ) (p0 p1 : Int32) : zw_CW w la yX0_fine cX0_fine 5 (Option.some Jvm.ClassFile.FieldType.int) [((0 : Nat), (10 : Nat), (13 : Nat), (19 : Nat)), ((0 : Nat), (10 : Nat), (17 : Nat), (21 : Nat))] (zr 9 2 12) [.ref (ad 0 0 0), .int p0, .int p1, .ref (ad 200 0 0)] M (zw_pi (zPw w ad μ th o (zop_fine σ p0 p1))) zw_no := by
  refine zw_enterW RX0 rfl (by decide) hl (by simp [Value.category]) (Nat.le_of_ble_eq_true rfl) (fun X hXl hXw K hE htab => ?_)
  subst hXl; subst hXw
  show zw_Z X _ 0 0 0 [some (.ref (ad 0 0 0)), some (.int p0), some (.int p1), some (.ref (ad 200 0 0)), none] []
  refine zw_aload_n (v := .ref (ad 200 0 0)) (pc' := 1) K dX0_fine_0 rfl rfl rfl ?_
  refine zw_iconst (v := 0) (pc' := 2) K dX0_fine_1 (by decide) rfl ?_
  refine zw_aload_n (v := .ref (ad 0 0 0)) (pc' := 3) K dX0_fine_2 rfl rfl rfl ?_
  refine zw_iload_n (x := p0) (pc' := 4) K dX0_fine_3 rfl rfl ?_
  refine zw_iload_n (x := p1) (pc' := 5) K dX0_fine_4 rfl rfl ?_
  refine zc_X0_65 (rest := [.int 0, .ref (ad 200 0 0)]) (c' := 2) (n' := 12) (pc' := 8) K (ct_X1_fine hl hW hI p0 p1) hW.c0 rfl rfl dX0_fine_5 rfl (Nat.le_of_ble_eq_true rfl) ⟨Nat.le_of_ble_eq_true rfl, Nat.le_of_ble_eq_true rfl⟩ ⟨Nat.le_of_ble_eq_true rfl, Nat.le_of_ble_eq_true rfl, Nat.le_of_ble_eq_true rfl, Nat.le_of_ble_eq_true rfl⟩ (zw_ki fun r Ma h => ?_) (fun E M1 h => ?_)
  · obtain ⟨h0, hr, hx⟩ := h
    have hO : Ma (ad 200 0 0) = some (zw_eJ (zw_Xw X) 1 (zgo o)) := by obtain ⟨ad', -, -, h3, hW'⟩ := hx; rw [← h3]; exact hW'.mout
    refine zw_i2l (pc' := 9) K dX0_fine_8 rfl ?_
    refine zn_last (j := 0) (pc' := 10) K hO rfl (by decide) dX0_fine_9 rfl ?_
    refine zw_nmM (fun M21 eM21 => ?_)
    have f22 : M21 (ad 200 0 0) = some (zw_eJ (zw_Xw X) 1 (vp_updL (zgo o) 0 r.toInt64)) := by rw [eM21]; exact zw_us
    refine zw_goto (tgt := 21) K dX0_fine_10 (by decide) ?_
    refine zw_iconst (v := 0) (pc' := 22) K dX0_fine_21 (by decide) rfl ?_
    exact zw_iret K hE dX0_fine_22 ⟨Nat.le_of_ble_eq_true rfl, Nat.le_of_ble_eq_true rfl⟩ (⟨h0.symm, by rw [if_pos h0]; exact hx.out (by rw [eM21]) (by rw [hr])⟩)
  · obtain ⟨⟨i, hi, hcd⟩, h1, h2, hW1⟩ := h
    rcases i with _ | i
    · cases hi
      refine zw_catch K (name := "java/lang/IndexOutOfBoundsException") htab [] (zw_ete (0, 10, 13, 19)) [zw_ete (0, 10, 17, 21)] rfl (fun z hz => absurd hz List.not_mem_nil) (by decide) (by decide) q357 q391 (fun q => ?_)
      refine zw_astore (lv' := [some (.ref (ad 0 0 0)), some (.int p0), some (.int p1), some (.ref (ad 200 0 0)), some (.ref q)]) (pc' := 15) K dX0_fine_13 rfl (by decide) rfl rfl ?_
      refine zw_iconst (v := 1) (pc' := 16) K dX0_fine_15 (by decide) rfl ?_
      exact zw_iret K hE dX0_fine_16 ⟨Nat.le_of_ble_eq_true rfl, Nat.le_of_ble_eq_true rfl⟩ (⟨by rw [hcd]; rfl, by rw [h2, if_neg (by rw [hcd]; decide)]; exact hW1.x⟩)
    · rcases i with _ | i
      · cases hi
        refine zw_catch K (name := "java/lang/IllegalArgumentException") htab [zw_ete (0, 10, 13, 19)] (zw_ete (0, 10, 17, 21)) [] rfl (fun z hz => by rcases List.mem_cons.mp hz with rfl | hz; exact Or.inr ⟨by decide, _, q357, by decide⟩; exact absurd hz List.not_mem_nil) (by decide) (by decide) q381 q410 (fun q => ?_)
        refine zw_astore (lv' := [some (.ref (ad 0 0 0)), some (.int p0), some (.int p1), some (.ref (ad 200 0 0)), some (.ref q)]) (pc' := 19) K dX0_fine_17 rfl (by decide) rfl rfl ?_
        refine zw_iconst (v := 2) (pc' := 20) K dX0_fine_19 (by decide) rfl ?_
        exact zw_iret K hE dX0_fine_20 ⟨Nat.le_of_ble_eq_true rfl, Nat.le_of_ble_eq_true rfl⟩ (⟨by rw [hcd]; rfl, by rw [h2, if_neg (by rw [hcd]; decide)]; exact hW1.x⟩)
      · cases hi
set_option maxHeartbeats 2000000 in
theorem ct_X0_firstTeller {w : zw_W} {la : Launch} (hl : la.stackTraces = false) {M : zw_M} {ad : Nat → Nat → Nat → Nat} {σ μ : zS} {th : Int32} {o : Int64} (hW : zW w M ad σ μ th o) (hI : zI σ) (p0 : Int32) : zw_CW w la yX0_firstTeller cX0_firstTeller 4 (Option.some Jvm.ClassFile.FieldType.int) [((0 : Nat), (9 : Nat), (12 : Nat), (19 : Nat))] (zr 9 1 6) [.ref (ad 0 0 0), .int p0, .ref (ad 200 0 0)] M (zw_pi (zPw w ad μ th o (zop_firstTeller σ p0))) zw_no := by
  refine zw_enterW RX0 rfl (by decide) hl (by simp [Value.category]) (Nat.le_of_ble_eq_true rfl) (fun X hXl hXw K hE htab => ?_)
  subst hXl; subst hXw
  show zw_Z X _ 0 0 0 [some (.ref (ad 0 0 0)), some (.int p0), some (.ref (ad 200 0 0)), none] []
  refine zw_aload_n (v := .ref (ad 200 0 0)) (pc' := 1) K dX0_firstTeller_0 rfl rfl rfl ?_
  refine zw_iconst (v := 0) (pc' := 2) K dX0_firstTeller_1 (by decide) rfl ?_
  refine zw_aload_n (v := .ref (ad 0 0 0)) (pc' := 3) K dX0_firstTeller_2 rfl rfl rfl ?_
  refine zw_iload_n (x := p0) (pc' := 4) K dX0_firstTeller_3 rfl rfl ?_
  refine zc_X0_68 (rest := [.int 0, .ref (ad 200 0 0)]) (c' := 1) (n' := 6) (pc' := 7) K (ct_X1_firstTeller hl hW hI p0) hW.c0 rfl rfl dX0_firstTeller_4 rfl (Nat.le_of_ble_eq_true rfl) ⟨Nat.le_of_ble_eq_true rfl, Nat.le_of_ble_eq_true rfl⟩ ⟨Nat.le_of_ble_eq_true rfl, Nat.le_of_ble_eq_true rfl, Nat.le_of_ble_eq_true rfl, Nat.le_of_ble_eq_true rfl⟩ (zw_ki fun r Ma h => ?_) (fun E M1 h => ?_)
  · obtain ⟨h0, hr, hx⟩ := h
    have hO : Ma (ad 200 0 0) = some (zw_eJ (zw_Xw X) 1 (zgo o)) := by obtain ⟨ad', -, -, h3, hW'⟩ := hx; rw [← h3]; exact hW'.mout
    refine zw_i2l (pc' := 8) K dX0_firstTeller_7 rfl ?_
    refine zn_last (j := 0) (pc' := 9) K hO rfl (by decide) dX0_firstTeller_8 rfl ?_
    refine zw_nmM (fun M21 eM21 => ?_)
    have f22 : M21 (ad 200 0 0) = some (zw_eJ (zw_Xw X) 1 (vp_updL (zgo o) 0 r.toInt64)) := by rw [eM21]; exact zw_us
    refine zw_goto (tgt := 15) K dX0_firstTeller_9 (by decide) ?_
    refine zw_iconst (v := 0) (pc' := 16) K dX0_firstTeller_15 (by decide) rfl ?_
    exact zw_iret K hE dX0_firstTeller_16 ⟨Nat.le_of_ble_eq_true rfl, Nat.le_of_ble_eq_true rfl⟩ (⟨h0.symm, by rw [if_pos h0]; exact hx.out (by rw [eM21]) (by rw [hr])⟩)
  · obtain ⟨⟨i, hi, hcd⟩, h1, h2, hW1⟩ := h
    rcases i with _ | i
    · cases hi
      refine zw_catch K (name := "java/lang/IndexOutOfBoundsException") htab [] (zw_ete (0, 9, 12, 19)) [] rfl (fun z hz => absurd hz List.not_mem_nil) (by decide) (by decide) q357 q391 (fun q => ?_)
      refine zw_astore_n (lv' := [some (.ref (ad 0 0 0)), some (.int p0), some (.ref (ad 200 0 0)), some (.ref q)]) (pc' := 13) K dX0_firstTeller_12 rfl (by decide) rfl rfl ?_
      refine zw_iconst (v := 1) (pc' := 14) K dX0_firstTeller_13 (by decide) rfl ?_
      exact zw_iret K hE dX0_firstTeller_14 ⟨Nat.le_of_ble_eq_true rfl, Nat.le_of_ble_eq_true rfl⟩ (⟨by rw [hcd]; rfl, by rw [h2, if_neg (by rw [hcd]; decide)]; exact hW1.x⟩)
    · cases hi
