/-! CartelWatch: turnoverOf, won -/
set_option maxRecDepth 100000
/-- as zw_enter, with the method's own name -/
theorem zw_enterN {w : zw_W} {l : Launch} {y : MethodName} {cc : ByteArray} {nL : Nat} {ret : Option FieldType} {rm : Room} {av : List Value} {M : zw_M} {Po : Option Value → zw_M → Prop} {Px : String → zw_M → Prop} (own : String) (hown : y.cls = own) (hy : plainName y.cls = true) (hl : l.stackTraces = false) (hc : ∀ v ∈ av, v.category = 1) (hn : (lg_sl av).length ≤ nL)
    (body : ∀ X : zw_X, zw_Xl X = l → zw_Xw X = w → zw_K X cc nL own rm → zw_E X ret Po Px rm.cells rm.slots → (∀ x ∈ X.2.2.2.2.2.2.2.2.2.1.exceptionTable.toList, False) → X.2.2.2.2.1.methodNamed? y = some X.2.2.2.2.2.1 → zw_Z X M 0 0 0 (zw_lv0 av nL) []) : zw_C w l y cc nL ret rm av M Po Px := by
  refine vx_ofW (cc := cc) (maxL := nL) (ret := ret) hy rfl ?_
  intro p e s m args below meth c s₁ B hml htab hv
  obtain ⟨rfl, hT, hH⟩ := hv
  have hts := atoms_spec (ws := ws_ y cc nL ret) B.pre
  have hts : ∀ w ∈ lw_all, w.before _ s = true := fun w h => hts w (List.mem_cons_of_mem _ h)
  have hfc : s.vm.findClass own = some m.cls := by rw [← hown]; exact findClass_of_methodNamed B.named
  have hb := body (p, l, e, rm, s, m, av.toArray, below, meth, c, vx_MQ below (zw_Q w Po) (zw_QX w Px) av.toArray s rm.cells rm.slots (zw_A w), w) rfl rfl ⟨B.exec, B.bytes, hml, hfc, hts, rfl, B.notSynchronized, hT, hl⟩ ⟨B.returns, rfl⟩ htab B.named
  rw [lg_entry_eq]
  refine hb s.heap [] _ hH va_S.rf ?_
  show zw_L _ c.maxLocals _
  rw [hml]
  exact zw_L0 av hc hn
/-- what a tender adds to the turnover of x -/
def zval (σ : zS) (x : Int32) (j : Nat) : Int32 := (if (if zv σ 0 j = 1 then zv σ 1 j else -1) = x then zv σ 4 (7 * j + (if zv σ 0 j = 1 then zv σ 1 j else -1).toNatClampNeg) - zv σ 3 j else 0) + (if zv σ 2 j = x then zv σ 3 j else 0)
theorem zval_turn {σ : zS} (hI : zI σ) {x : Int32} (hx : ¬ x = -1) : zf (fun j z => z + zval σ x j) (zn σ) 0 = zturn σ x := by
  unfold zturn
  refine zf_congr (fun i hi b => ?_)
  unfold zval zturnF zprice
  by_cases h : zv σ 0 i = 1
  · rw [if_pos h, if_pos h]; exact (Int32.add_assoc _ _ _).symm
  · rw [if_neg h, if_neg h, if_neg (fun q => hx q.symm)]
    rcases hI.pa hi with q | ⟨q, -⟩
    · rw [q, if_neg (fun z => hx z.symm)]; simp
    · exact absurd q h
theorem zwon_val {σ : zS} {x : Int32} (hx : ¬ x = -1) : zf (fun j z => z + zb ((if zv σ 0 j = 1 then zv σ 1 j else -1) == x)) (zn σ) 0 = zf (zwonF σ x) (zn σ) 0 := by
  refine zf_congr (fun i hi b => ?_)
  unfold zwonF
  by_cases h : zv σ 0 i = 1
  · simp [h]
  · rw [if_neg h, show (zv σ 0 i == 1) = false by simpa using h, show ((-1 : Int32) == x) = false by simpa using fun q : (-1 : Int32) = x => hx q.symm]; rfl
theorem zI.wip {σ : zS} (hI : zI σ) {i : Nat} (hi : i < zn σ) : (if zv σ 0 i = 1 then zv σ 1 i else -1) = -1 ∨ ∃ j, j < 7 ∧ (if zv σ 0 i = 1 then zv σ 1 i else -1) = nI j ∧ 0 < zv σ 4 (7 * i + j) := by
  by_cases h : zv σ 0 i = 1
  · rw [if_pos h]; exact Or.inr (hI.wi hi h)
  · rw [if_neg h]; exact Or.inl rfl
theorem zneg7 {x : Int32} (h : zin x 7 = true) : ¬ x = -1 := by
  obtain ⟨j, hj, rfl⟩ := zin_of h (by decide)
  exact zs_neg1 j (by omega)
set_option maxHeartbeats 2000000 in
theorem ct_X1_turnoverOf {w : zw_W} {la : Launch} (hl : la.stackTraces = false) {M : zw_M} {ad : Nat → Nat → Nat → Nat} {σ μ : zS} {th : Int32} {o : Int64} (hW : zW w M ad σ μ th o) (hI : zI σ) (x : Int32) (hx : ¬ x = -1) : zw_C w la yX1_turnoverOf cX1_turnoverOf 2 (Option.some Jvm.ClassFile.FieldType.int) (zrl 7 1 1) [.ref (ad 0 0 0), .int x] M (zw_pi fun r M1 => r = zturn σ x ∧ zW w M1 ad σ μ th o) zw_no := by
  refine zw_enterN RX1 rfl (by decide) hl (by simp [Value.category]) (Nat.le_of_ble_eq_true rfl) (fun X hXl hXw K hE htab hcon => ?_)
  subst hXl; subst hXw
  show zw_Z X _ 0 0 0 [some (.ref (ad 0 0 0)), some (.int x)] []
  refine zw_aload_n (v := .ref (ad 0 0 0)) (pc' := 1) K dX1_turnoverOf_0 rfl rfl rfl ?_
  refine zg_X1_26 (v := .ref (ad 1 0 0)) (pc' := 4) K hW.c0 rfl dX1_turnoverOf_1 rfl ?_
  refine zw_iload_n (x := x) (pc' := 5) K dX1_turnoverOf_4 rfl rfl ?_
  refine zw_make1 (i := 0) (c' := 1) (n' := 1) (pc' := 10) K rfl hcon rfl (zm_at0 K.2.2.2.2.2.2.2.1 (K.2.2.2.2.1 _ q900)) rfl ⟨Nat.le_of_ble_eq_true rfl, Nat.le_of_ble_eq_true rfl, Nat.le_of_ble_eq_true rfl, Nat.le_of_ble_eq_true rfl⟩ (Nat.le_of_ble_eq_true rfl) dX1_turnoverOf_5 rfl (fun q hq => ?_)
  refine zw_nmM (fun M1 eM1 => ?_)
  have hW2 : zW (zw_Xw X) M1 ad (σ) μ th o := by rw [eM1]; exact hW.keep (fun a e he => zw_un' (zw_nn he hq) he)
  have hlq : M1 q = some (.inl (.inl (zw_k (zw_Xw X) (20 + 0), 1, .inl (fun _ => x)))) := by rw [eM1]; exact zw_us
  refine zc_X1_133 (rest := []) (c' := 1) (n' := 1) (pc' := 13) K (ct_X1_sum0 hl M1 (ad 1 0 0) q (zn σ) (zval σ x) hW2.c1 hlq (by have := hI.n; omega) (fun j hj => ⟨_, hW2.c10 hj⟩) (fun j hj => ct_X1_lambda_turnoverOf_0 hl M1 (ad 10 j 0) (hW2.tender hI.sm hj) x hx (hI.wip hj))) rfl rfl dX1_turnoverOf_10 rfl (Nat.le_of_ble_eq_true rfl) ⟨Nat.le_of_ble_eq_true rfl, Nat.le_of_ble_eq_true rfl⟩ ⟨Nat.le_of_ble_eq_true rfl, Nat.le_of_ble_eq_true rfl, Nat.le_of_ble_eq_true rfl, Nat.le_of_ble_eq_true rfl⟩ (zw_kp ?_) zw_kn
  exact zw_iret K hE dX1_turnoverOf_13 ⟨Nat.le_of_ble_eq_true rfl, Nat.le_of_ble_eq_true rfl⟩ (⟨zval_turn hI hx, hW2⟩)
/-- the world with perhaps more cells: the law's own three stay -/
def zWx (w : zw_W) (M : zw_M) (ad : Nat → Nat → Nat → Nat) (σ μ : zS) (th : Int32) (o : Int64) : Prop := ∃ ad' : Nat → Nat → Nat → Nat, ad' 0 0 0 = ad 0 0 0 ∧ ad' 100 0 0 = ad 100 0 0 ∧ ad' 200 0 0 = ad 200 0 0 ∧ zW w M ad' σ μ th o
theorem zW.x {w : zw_W} {M : zw_M} {ad : Nat → Nat → Nat → Nat} {σ μ : zS} {th : Int32} {o : Int64} (h : zW w M ad σ μ th o) : zWx w M ad σ μ th o := ⟨ad, rfl, rfl, rfl, h⟩
/-- a call that answers, one that throws: l names the exceptions of codes 1, 2 .. -/
def zPo (w : zw_W) (ad : Nat → Nat → Nat → Nat) (μ : zS) (th : Int32) (o : Int64) (res : zR) : Int32 → zw_M → Prop := fun r M1 => res.2.1 = 0 ∧ r = res.1 ∧ zWx w M1 ad res.2.2 μ th o
def zPx (l : List String) (w : zw_W) (ad : Nat → Nat → Nat → Nat) (σ μ : zS) (th : Int32) (o : Int64) (res : zR) : String → zw_M → Prop := fun E M1 => (∃ i : Nat, l[i]? = some E ∧ res.2.1 = nI (i + 1)) ∧ res.1 = 0 ∧ res.2.2 = σ ∧ zW w M1 ad σ μ th o
theorem zPo.mk {w : zw_W} {M : zw_M} {ad : Nat → Nat → Nat → Nat} {σ' μ : zS} {th : Int32} {o : Int64} {res : zR} {r : Int32} (h : res = (r, 0, σ')) (hW : zWx w M ad σ' μ th o) : zPo w ad μ th o res r M := by rw [h]; exact ⟨rfl, rfl, hW⟩
theorem zPx.mk {l : List String} {w : zw_W} {M : zw_M} {ad : Nat → Nat → Nat → Nat} {σ μ : zS} {th : Int32} {o : Int64} {res : zR} {E : String} {c : Int32} (i : Nat) (h : res = (0, c, σ)) (hc : c = nI (i + 1)) (hE : l[i]? = some E) (hW : zW w M ad σ μ th o) : zPx l w ad σ μ th o res E M := by rw [h]; exact ⟨⟨i, hE, hc⟩, rfl, rfl, hW⟩
set_option maxHeartbeats 2000000 in
theorem ct_X1_won {w : zw_W} {la : Launch} (hl : la.stackTraces = false) {M : zw_M} {ad : Nat → Nat → Nat → Nat} {σ μ : zS} {th : Int32} {o : Int64} (hW : zW w M ad σ μ th o) (hI : zI σ) (x : Int32) : zw_C w la yX1_won cX1_won 2 (Option.some Jvm.ClassFile.FieldType.int) (zrl 8 2 7) [.ref (ad 0 0 0), .int x] M (zw_pi (zPo w ad μ th o (zop_won σ x))) (zPx ["java/lang/IllegalArgumentException"] w ad σ μ th o (zop_won σ x)) := by
  refine zw_enterN RX1 rfl (by decide) hl (by simp [Value.category]) (Nat.le_of_ble_eq_true rfl) (fun X hXl hXw K hE htab hcon => ?_)
  subst hXl; subst hXw
  show zw_Z X _ 0 0 0 [some (.ref (ad 0 0 0)), some (.int x)] []
  refine zw_iload_n (x := x) (pc' := 1) K dX1_won_0 rfl rfl ?_
  refine zc_X1_54 (rest := []) (c' := 1) (n' := 6) (pc' := 4) K (ct_X1_bidder hl M x) rfl rfl dX1_won_1 rfl (Nat.le_of_ble_eq_true rfl) ⟨Nat.le_of_ble_eq_true rfl, Nat.le_of_ble_eq_true rfl⟩ ⟨Nat.le_of_ble_eq_true rfl, Nat.le_of_ble_eq_true rfl, Nat.le_of_ble_eq_true rfl, Nat.le_of_ble_eq_true rfl⟩ (zw_ki fun r M1 h => ?_) (fun E M1 h => ?_)
  · obtain ⟨hr, h1, hM⟩ := h
    have hM := hM.symm
    subst hM
    rw [hr]
    refine zw_pop (pc' := 5) K dX1_won_4 rfl rfl ?_
    refine zw_aload_n (v := .ref (ad 0 0 0)) (pc' := 6) K dX1_won_5 rfl rfl rfl ?_
    refine zg_X1_26 (v := .ref (ad 1 0 0)) (pc' := 9) K hW.c0 rfl dX1_won_6 rfl ?_
    refine zw_iload_n (x := x) (pc' := 10) K dX1_won_9 rfl rfl ?_
    refine zw_make1 (i := 1) (c' := 2) (n' := 7) (pc' := 15) K rfl hcon rfl (zm_at1 K.2.2.2.2.2.2.2.1 (K.2.2.2.2.1 _ q900)) rfl ⟨Nat.le_of_ble_eq_true rfl, Nat.le_of_ble_eq_true rfl, Nat.le_of_ble_eq_true rfl, Nat.le_of_ble_eq_true rfl⟩ (Nat.le_of_ble_eq_true rfl) dX1_won_10 rfl (fun q hq => ?_)
    refine zw_nmM (fun M1 eM1 => ?_)
    have hW2 : zW (zw_Xw X) M1 ad (σ) μ th o := by rw [eM1]; exact hW.keep (fun a e he => zw_un' (zw_nn he hq) he)
    have hlq : M1 q = some (.inl (.inl (zw_k (zw_Xw X) (20 + 1), 1, .inl (fun _ => x)))) := by rw [eM1]; exact zw_us
    refine zc_X1_133 (rest := []) (c' := 2) (n' := 7) (pc' := 18) K (ct_X1_sum1 hl M1 (ad 1 0 0) q (zn σ) (fun j => zb ((if zv σ 0 j = 1 then zv σ 1 j else -1) == x)) hW2.c1 hlq (by have := hI.n; omega) (fun j hj => ⟨_, hW2.c10 hj⟩) (fun j hj => ct_X1_lambda_won_1 hl M1 (ad 10 j 0) (hW2.tender hI.sm hj) x)) rfl rfl dX1_won_15 rfl (Nat.le_of_ble_eq_true rfl) ⟨Nat.le_of_ble_eq_true rfl, Nat.le_of_ble_eq_true rfl⟩ ⟨Nat.le_of_ble_eq_true rfl, Nat.le_of_ble_eq_true rfl, Nat.le_of_ble_eq_true rfl, Nat.le_of_ble_eq_true rfl⟩ (zw_kp ?_) zw_kn
    exact zw_iret K hE dX1_won_18 ⟨Nat.le_of_ble_eq_true rfl, Nat.le_of_ble_eq_true rfl⟩ (zPo.mk (by unfold zop_won; rw [if_pos h1, zwon_val (zneg7 h1)]) hW2.x)
  · obtain ⟨h0, h1, hM⟩ := h
    have hM := hM.symm
    subst h0; subst hM
    exact zw_out K hE htab ⟨Nat.le_of_ble_eq_true rfl, Nat.le_of_ble_eq_true rfl⟩ (zPx.mk 0 (c := 1) (by simp [zop_won, h1]) (by decide) rfl hW)
