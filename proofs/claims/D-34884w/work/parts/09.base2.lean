/-! The Z layer, second part: fields, new cells, ends, throws, calls. -/
set_option maxRecDepth 100000
section ZY
variable {X : zw_X} {cc : ByteArray} {nL : Nat} {own : String} {rm : Room} {M : zw_M} {c n pc pc' : Nat} {lv lv' : List (Option Value)} {st : List Value}
theorem zw_K.hA (K : zw_K X cc nL own rm) : ∀ q, X.2.2.2.2.1.heap.size ≤ q → zw_A X.2.2.2.2.2.2.2.2.2.2.2 q := fun q h => Nat.le_trans K.2.2.2.2.2.2.2.1.2.2.2.2.2.2.2.2.2 h
theorem zw_get (K : zw_K X cc nL own rm) {ref C : String} {T : u_T} {N ci index k a : Nat} {fs : List Value} {v : Value} (hin : ∀ q ∈ u_ws C T N, q ∈ lw_all) (hc : zw_cl[ci]? = some (C, T, N)) (hk : k < N) (hlink : Cond.fieldLink own index ref (T k).2.1 (T k).2.2.1 ∈ lw_all) (hsame : ∀ s : State, (∀ q ∈ lw_all, ∃ A : Array Value, q.before A s = true) → ∀ x, s.fieldFound? (T k).1 (T k).2.1 (T k).2.2.1 = some x → s.fieldFound? ref (T k).2.1 (T k).2.2.1 = some x)
    (hM : M a = some (.inl (.inr (ci, fs)))) (hv : fs[k]? = some v) (hd : decode cc pc = .ok (.getfield index, 3)) (hp : pc + 3 = pc') (kk : zw_Z X M c n pc' lv (v :: st)) : zw_Z X M c n pc lv (.ref a :: st) := by
  subst hp
  obtain ⟨hx, hb, -, hown, hts, -, -, hT, -⟩ := K
  intro H locs ls hH hS hl
  obtain ⟨ws, ar, h1, h2, h3⟩ := id hH
  obtain ⟨q0, hq0⟩ := h3.1 a _ hM
  exact va_get hx hb hts hin hown hT.1 h1 q0 hq0 hc k hk (hts _ hlink) (hsame _ (fun q h => ⟨_, hts q h⟩)) hv hd (kk H locs ls hH hS hl)
theorem zw_getN (K : zw_K X cc nL own rm) {ref C host : String} {T : u_T} {N ci index k a : Nat} {fs : List Value} {v : Value} (hin : ∀ q ∈ u_ws C T N, q ∈ lw_all) (hc : zw_cl[ci]? = some (C, T, N)) (hk : k < N) (hlink : Cond.fieldLinkNest own index ref (T k).2.1 (T k).2.2.1 host ∈ lw_tbl) (hsame : ∀ s : State, (∀ q ∈ lw_all, ∃ A : Array Value, q.before A s = true) → ∀ x, s.fieldFound? (T k).1 (T k).2.1 (T k).2.2.1 = some x → s.fieldFound? ref (T k).2.1 (T k).2.2.1 = some x)
    (hM : M a = some (.inl (.inr (ci, fs)))) (hv : fs[k]? = some v) (hd : decode cc pc = .ok (.getfield index, 3)) (hp : pc + 3 = pc') (kk : zw_Z X M c n pc' lv (v :: st)) : zw_Z X M c n pc lv (.ref a :: st) := by
  subst hp
  obtain ⟨hx, hb, -, hown, hts, -, -, hT, -⟩ := K
  intro H locs ls hH hS hl
  obtain ⟨ws, ar, h1, h2, h3⟩ := id hH
  obtain ⟨q0, hq0⟩ := h3.1 a _ hM
  exact va_getN hx hb hts hin hown hT.1 h1 q0 hq0 hc k hk (va_Nw.use rfl (hT.2.2.2.2.2.1 _ hlink rfl)) (hsame _ (fun q h => ⟨_, hts q h⟩)) hv hd (kk H locs ls hH hS hl)
theorem zw_put (K : zw_K X cc nL own rm) {ref C : String} {T : u_T} {N ci index k a : Nat} {fs : List Value} {ty : FieldType} {v : Value} (hin : ∀ q ∈ u_ws C T N, q ∈ lw_all) (hc : zw_cl[ci]? = some (C, T, N)) (ty0 : Nat → FieldType) (hty : ∀ k, k < N → parseFieldDescriptor (T k).2.2.1 = some (ty0 k)) (hnm : ∀ a, a < N → ∀ b, b < N → a ≠ b → (T a).2.1 ≠ (T b).2.1) (hk : k < N) (hlink : Cond.fieldLink own index ref (T k).2.1 (T k).2.2.1 ∈ lw_all) (hsame : ∀ s : State, (∀ q ∈ lw_all, ∃ A : Array Value, q.before A s = true) → ∀ x, s.fieldFound? (T k).1 (T k).2.1 (T k).2.2.1 = some x → s.fieldFound? ref (T k).2.1 (T k).2.2.1 = some x) (hfin : (T k).2.2.2 = false) (hd0 : parseFieldDescriptor (T k).2.2.1 = some ty)
    (hM : M a = some (.inl (.inr (ci, fs)))) (hn : narrow ty v = v) (hfit : fits ty v = true) (hl0 : k < fs.length) (hd : decode cc pc = .ok (.putfield index, 3)) (hp : pc + 3 = pc') (kk : zw_Z X (zw_u M a (.inl (.inr (ci, fs.set k v)))) c n pc' lv st) : zw_Z X M c n pc lv (v :: .ref a :: st) := by
  subst hp
  obtain ⟨hx, hb, -, hown, hts, -, -, hT, -⟩ := K
  intro H locs ls hH hS hl
  obtain ⟨ws, ar, h1, h2, h3⟩ := id hH
  obtain ⟨q0, hq0⟩ := h3.1 a _ hM
  exact va_put hx hb hts hin ty0 hty hnm hown hT.1 h1 h2 hS q0 hq0 hc k hk (hts _ hlink) (hsame _ (fun q h => ⟨_, hts q h⟩)) hfin hd0 hn hfit hl0 hd (fun H1 locs1 g1 g2 g3 => kk H1 locs1 ls ⟨_, _, g1, g2, zw_set h2 hq0 hM h3⟩ g3 hl)
theorem zw_putN (K : zw_K X cc nL own rm) {ref C host : String} {T : u_T} {N ci index k a : Nat} {fs : List Value} {ty : FieldType} {v : Value} (hin : ∀ q ∈ u_ws C T N, q ∈ lw_all) (hc : zw_cl[ci]? = some (C, T, N)) (ty0 : Nat → FieldType) (hty : ∀ k, k < N → parseFieldDescriptor (T k).2.2.1 = some (ty0 k)) (hnm : ∀ a, a < N → ∀ b, b < N → a ≠ b → (T a).2.1 ≠ (T b).2.1) (hk : k < N) (hlink : Cond.fieldLinkNest own index ref (T k).2.1 (T k).2.2.1 host ∈ lw_tbl) (hsame : ∀ s : State, (∀ q ∈ lw_all, ∃ A : Array Value, q.before A s = true) → ∀ x, s.fieldFound? (T k).1 (T k).2.1 (T k).2.2.1 = some x → s.fieldFound? ref (T k).2.1 (T k).2.2.1 = some x) (hfin : (T k).2.2.2 = false) (hd0 : parseFieldDescriptor (T k).2.2.1 = some ty)
    (hM : M a = some (.inl (.inr (ci, fs)))) (hn : narrow ty v = v) (hfit : fits ty v = true) (hl0 : k < fs.length) (hd : decode cc pc = .ok (.putfield index, 3)) (hp : pc + 3 = pc') (kk : zw_Z X (zw_u M a (.inl (.inr (ci, fs.set k v)))) c n pc' lv st) : zw_Z X M c n pc lv (v :: .ref a :: st) := by
  subst hp
  obtain ⟨hx, hb, -, hown, hts, -, -, hT, -⟩ := K
  intro H locs ls hH hS hl
  obtain ⟨ws, ar, h1, h2, h3⟩ := id hH
  obtain ⟨q0, hq0⟩ := h3.1 a _ hM
  exact va_putN hx hb hts hin ty0 hty hnm hown hT.1 h1 h2 hS q0 hq0 hc k hk (va_Nw.use rfl (hT.2.2.2.2.2.1 _ hlink rfl)) (hsame _ (fun q h => ⟨_, hts q h⟩)) hfin hd0 hn hfit hl0 hd (fun H1 locs1 g1 g2 g3 => kk H1 locs1 ls ⟨_, _, g1, g2, zw_set h2 hq0 hM h3⟩ g3 hl)
/-- a final field, in the constructor of its class (hcon: the method's name) -/
theorem zw_putF (K : zw_K X cc nL own rm) (hcon : X.2.2.2.2.2.2.2.2.1.name = "<init>") {ref C : String} {T : u_T} {N ci index k a : Nat} {fs : List Value} {ty : FieldType} {v : Value} (hin : ∀ q ∈ u_ws C T N, q ∈ lw_all) (hc : zw_cl[ci]? = some (C, T, N)) (ty0 : Nat → FieldType) (hty : ∀ k, k < N → parseFieldDescriptor (T k).2.2.1 = some (ty0 k)) (hnm : ∀ a, a < N → ∀ b, b < N → a ≠ b → (T a).2.1 ≠ (T b).2.1) (hk : k < N) (hlink : Cond.fieldLink own index ref (T k).2.1 (T k).2.2.1 ∈ lw_all) (hsame : ∀ s : State, (∀ q ∈ lw_all, ∃ A : Array Value, q.before A s = true) → ∀ x, s.fieldFound? (T k).1 (T k).2.1 (T k).2.2.1 = some x → s.fieldFound? ref (T k).2.1 (T k).2.2.1 = some x) (hfin : (T k).2.2.2 = true) (hdecl : (T k).1 = own) (hd0 : parseFieldDescriptor (T k).2.2.1 = some ty)
    (hM : M a = some (.inl (.inr (ci, fs)))) (hn : narrow ty v = v) (hfit : fits ty v = true) (hl0 : k < fs.length) (hd : decode cc pc = .ok (.putfield index, 3)) (hp : pc + 3 = pc') (kk : zw_Z X (zw_u M a (.inl (.inr (ci, fs.set k v)))) c n pc' lv st) : zw_Z X M c n pc lv (v :: .ref a :: st) := by
  subst hp
  obtain ⟨hx, hb, -, hown, hts, -, -, hT, -⟩ := K
  intro H locs ls hH hS hl
  obtain ⟨ws, ar, h1, h2, h3⟩ := id hH
  obtain ⟨q0, hq0⟩ := h3.1 a _ hM
  exact va_putF hx hb hts hin ty0 hty hnm hown hT.1 h1 h2 hS q0 hq0 hc k hk (hts _ hlink) (hsame _ (fun q h => ⟨_, hts q h⟩)) hfin hcon hdecl hd0 hn hfit hl0 hd (fun H1 locs1 g1 g2 g3 => kk H1 locs1 ls ⟨_, _, g1, g2, zw_set h2 hq0 hM h3⟩ g3 hl)
/-- new C: the cell is new (M q = none) -/
theorem zw_new (K : zw_K X cc nL own rm) {C : String} {T : u_T} {N ci index c' n' : Nat} {fs : List Value} (hin : ∀ q ∈ u_ws C T N, q ∈ lw_all) (hc : zw_cl[ci]? = some (C, T, N)) (ty : Nat → FieldType) (hty : ∀ k, k < N → parseFieldDescriptor (T k).2.2.1 = some (ty k)) (h1 : Cond.classLink own index C ∈ lw_all) (h2 : Cond.instantiable C N ∈ lw_all) (h3 : Cond.initialized C ∈ lw_all) (hfs : ∀ j, j < N → defaultValue (ty j) = vp_V fs j)
    (hcs : c + 1 ≤ c' ∧ n + N ≤ n' ∧ c' ≤ rm.cells ∧ n' ≤ rm.slots) (hd : decode cc pc = .ok (.new index, 3)) (hp : pc + 3 = pc') (kk : ∀ q : Nat, M q = none → zw_Z X (zw_u M q (.inl (.inr (ci, fs)))) c' n' pc' lv (.ref q :: st)) : zw_Z X M c n pc lv st := by
  subst hp
  have hA := K.hA
  obtain ⟨hx, hb, -, hown, hts, hR, -, hT, -⟩ := K
  intro H locs ls hH hS hl
  obtain ⟨ws, ar, g1, g2, g3⟩ := id hH
  refine va_new hx hb hts hin ty hty hown (hts _ h1) (hts _ h2) (hts _ h3) hT.1 g1 g2 hS hA hc hfs ?_ ?_ hd (fun q H1 k1 k2 k3 => ?_)
  · rw [hR]; omega
  · rw [hR]; omega
  · obtain ⟨z1, z2⟩ := zw_push k2 g3
    exact W.widen hcs.1 hcs.2.1 (kk q z1 H1 locs ls ⟨_, _, k1, k2, z2⟩ k3 hl)
/-- new int[n] .. -/
theorem zw_newa (K : zw_K X cc nL own rm) {atype : ArrayType} {ty : FieldType} {t0 : Nat} {cA : ClassId} {i : Int32} {N' c' n' : Nat} {a0 : vp_A} (harr : Cond.arrayClass (newarray.typeOf atype) ∈ lw_all) (hty : newarray.typeOf atype = ty) (ht0 : (zw_ty (zw_Xw X))[t0]? = some (cA, ty)) (hpr : ∀ (U : State) (q : ClassId), va_RA U q ty → U.vm.findClass ("[" ++ ty.toString) = some q) (ha : ∀ cA : ClassId, vp_cell cA a0 = arrV cA N' (fun _ => defaultValue ty)) (hn : ¬ i < 0) (hN : i.toNatClampNeg = N') (hby : N' * componentBytes ty ≤ 536870912)
    (hcs : c + 1 ≤ c' ∧ n + N' ≤ n' ∧ c' ≤ rm.cells ∧ n' ≤ rm.slots) (hd : decode cc pc = .ok (.newarray atype, 2)) (hp : pc + 2 = pc') (kk : ∀ q : Nat, M q = none → zw_Z X (zw_u M q (.inl (.inl (cA, a0)))) c' n' pc' lv (.ref q :: st)) : zw_Z X M c n pc lv (.int i :: st) := by
  subst hp
  have hA := K.hA
  obtain ⟨hx, hb, -, hown, hts, hR, -, hT, -⟩ := K
  intro H locs ls hH hS hl
  obtain ⟨ws, ar, g1, g2, g3⟩ := id hH
  refine va_newa hx hb (hts _ harr) hty hT.1 g1 g2 hS hA ha hn hN hby ?_ ?_ hd (fun q c9 H1 hK1 k1 k2 k3 => ?_)
  · rw [hR]; omega
  · rw [hR]; omega
  · have e1 := hpr _ _ (hT.1.2 t0 _ ht0).2
    have e2 := hpr _ _ (hK1.2 (zw_ty (zw_Xw X)).length (c9, ty) (by simp [zw_Xw])).2
    have e3 : c9 = cA := Option.some.inj (e2.symm.trans e1)
    subst e3
    obtain ⟨z1, z2⟩ := zw_push k2 g3
    exact W.widen hcs.1 hcs.2.1 (kk q z1 H1 locs ls ⟨_, _, k1, k2, z2⟩ k3 hl)
/-- new C[n] -/
theorem zw_newq (K : zw_K X cc nL own rm) {C : String} {index t0 : Nat} {cA : ClassId} {i : Int32} {N' c' n' : Nat} (hcl : Cond.classLink own index C ∈ lw_all) (hAO : zw_T (zw_Xw X) X.2.2.2.2.1 → va_AO C X.2.2.2.2.1) (ht0 : (zw_ty (zw_Xw X))[t0]? = some (cA, .object C)) (hn : ¬ i < 0) (hN : i.toNatClampNeg = N') (hby : N' * 4 ≤ 536870912)
    (hcs : c + 1 ≤ c' ∧ n + N' ≤ n' ∧ c' ≤ rm.cells ∧ n' ≤ rm.slots) (hd : decode cc pc = .ok (.anewarray index, 3)) (hp : pc + 3 = pc') (kk : ∀ q : Nat, M q = none → zw_Z X (zw_u M q (.inl (.inl (cA, N', .inr (.inr (.inr (.inr (fun _ => none)))))))) c' n' pc' lv (.ref q :: st)) : zw_Z X M c n pc lv (.int i :: st) := by
  subst hp
  have hA := K.hA
  obtain ⟨hx, hb, -, hown, hts, hR, -, hT, -⟩ := K
  intro H locs ls hH hS hl
  obtain ⟨ws, ar, g1, g2, g3⟩ := id hH
  refine va_newq hx hb hown (hts _ hcl) (hAO hT) hT.1 g1 g2 hS hA hn hN hby ?_ ?_ hd (fun q c9 H1 hK1 k1 k2 k3 => ?_)
  · rw [hR]; omega
  · rw [hR]; omega
  · obtain ⟨-, -, -, -, -, e1⟩ := (hT.1.2 t0 _ ht0).2
    obtain ⟨-, -, -, -, -, e2⟩ := (hK1.2 (zw_ty (zw_Xw X)).length (c9, .object C) (by simp [zw_Xw])).2
    have e3 : c9 = cA := Option.some.inj (e2.symm.trans e1)
    subst e3
    obtain ⟨z1, z2⟩ := zw_push k2 g3
    exact W.widen hcs.1 hcs.2.1 (kk q z1 H1 locs ls ⟨_, _, k1, k2, z2⟩ k3 hl)
theorem zw_objInit (K : zw_K X cc nL own rm) {idx a : Nat} (h1 : Cond.methodLink own idx Lib.objectInit ∈ lw_all) (h2 : Cond.instanceMethod Lib.objectInit ∈ lw_all) (h3 : Cond.code Lib.objectInit ⟨#[0xb1]⟩ 1 none ∈ lw_all) (hd : decode cc pc = .ok (.invokespecial idx, 3)) (hp : pc + 3 = pc') (hr : 1 ≤ rm.frames ∧ (st.map fun v => v.category).sum + 12 ≤ rm.locals) (k : zw_Z X M c n pc' lv st) : zw_Z X M c n pc lv (.ref a :: st) := by
  subst hp
  obtain ⟨hx, hb, -, hown, hts, hR, -, hT, -⟩ := K
  intro H locs ls hH hS hl
  exact W.objInit hx hb hown (hts _ h1) (hts _ h2) (hts _ h3) rfl hl.1 rfl hd (by rw [hR]; exact hr.1) (by rw [hR]; show 2 * 0 + _ + 12 ≤ _; omega) (k H locs ls hH hS hl)
theorem zw_ldc (K : zw_K X cc nL own rm) {index : Nat} {v : Int32} (h1 : Cond.constant own index v ∈ lw_all) (hd : decode cc pc = .ok (.ldc index, 2)) (hp : pc + 2 = pc') (k : zw_Z X M c n pc' lv (.int v :: st)) : zw_Z X M c n pc lv st := by
  subst hp
  obtain ⟨hx, hb, -, hown, hts, hR, -, hT, -⟩ := K
  intro H locs ls hH hS hl
  exact lv_ldc hx hb hown (hts _ h1) hd (k H locs ls hH hS hl)
/-- the empty array of java.util.ArrayList -/
theorem zw_gets (K : zw_K X cc nL own rm) {index : Nat} (h1 : Cond.fieldLink own index "java/util/ArrayList" "DEFAULTCAPACITY_EMPTY_ELEMENTDATA" "[Ljava/lang/Object;" ∈ lw_all) (hd : decode cc pc = .ok (.getstatic index, 3)) (hp : pc + 3 = pc') (k : zw_Z X M c n pc' lv (.ref (zw_k (zw_Xw X) 5) :: st)) : zw_Z X M c n pc lv st := by
  subst hp
  obtain ⟨hx, hb, -, hown, hts, hR, -, hT, -⟩ := K
  intro H locs ls hH hS hl
  exact va_gets hx hb hT.2.1.1 hS hown (hts _ h1) (fun x h => h) hd (k H locs ls hH hS hl)
theorem zw_recv (K : zw_K X cc nL own rm) {H : Heap} (hH : zw_H X.2.2.2.2.2.2.2.2.2.2.2 M H) {a ci : Nat} {rr : vw_C} {fs : List Value} (hc : zw_cl[ci]? = some rr) (hM : M a = some (.inl (.inr (ci, fs)))) : ∃ cell : Cell, H[a]? = some cell ∧ cell.vm.isStatics = false ∧ X.2.2.2.2.1.vm.findClass rr.1 = some cell.cls := by
  obtain ⟨ws, ar, g1, g2, g3⟩ := hH
  obtain ⟨q0, hq0⟩ := g3.1 a _ hM
  exact va_recv K.2.2.2.2.2.2.2.1.1 g1 hc hq0
theorem zw_recvL (K : zw_K X cc nL own rm) {H : Heap} (hH : zw_H X.2.2.2.2.2.2.2.2.2.2.2 M H) {a ln : Nat} {el : Nat → Nat} (hM : M a = some (.inr (ln, el))) : ∃ cell : Cell, H[a]? = some cell ∧ cell.vm.isStatics = false ∧ X.2.2.2.2.1.vm.findClass RJ2 = some cell.cls := by
  obtain ⟨ws, ar, g1, g2, g3, g4, g5⟩ := hH
  obtain ⟨mc, ⟨q0, hq0⟩, -⟩ := g4 a ln el hM
  exact va_recv K.2.2.2.2.2.2.2.1.1 (q := (RJ2, TJ2, 3)) g1 rfl hq0
/-- checkcast to the object's own class -/
theorem zw_cast (K : zw_K X cc nL own rm) {a ci index : Nat} {rr : vw_C} {fs : List Value} (hc : zw_cl[ci]? = some rr) (h1 : Cond.classLink own index rr.1 ∈ lw_all) (hM : M a = some (.inl (.inr (ci, fs)))) (hd : decode cc pc = .ok (.checkcast index, 3)) (hp : pc + 3 = pc') (k : zw_Z X M c n pc' lv (.ref a :: st)) : zw_Z X M c n pc lv (.ref a :: st) := by
  subst hp
  have hr := fun H hH => zw_recv K (H := H) hH hc hM
  obtain ⟨hx, hb, -, hown, hts, hR, -, hT, -⟩ := K
  intro H locs ls hH hS hl
  exact va_castS hx hb hown (hts _ h1) (hT.1.1 ci rr hc).2 (hr H hH) hd (k H locs ls hH hS hl)
/-! ends -/
section ZR
variable {Px : String → zw_M → Prop} {mc ms : Nat}
theorem zw_iret {Po : Int32 → zw_M → Prop} {r : Int32} (K : zw_K X cc nL own rm) (hE : zw_E X (some .int) (zw_pi Po) Px mc ms) (hd : decode cc pc = .ok (.ireturn, 1)) (hcs : c ≤ mc ∧ n ≤ ms) (h : Po r M) : zw_Z X M c n pc lv [.int r] := by
  obtain ⟨hx, hb, -, -, -, -, hlk, -⟩ := K
  obtain ⟨hr, hQ⟩ := hE
  intro H locs ls hH hS hl
  rw [hQ]
  refine W.widen hcs.1 hcs.2 (vx_ret ?_)
  exact W.iret hx hb hr (fun t ht hW => ⟨_, M, rfl, ⟨r, rfl, h⟩, by rw [ht]; exact hH, hS.F ht⟩) hS.2.2 hd hlk
theorem zw_zret {Po : Int32 → zw_M → Prop} {r : Int32} {ty : FieldType} (K : zw_K X cc nL own rm) (hE : zw_E X (some ty) (zw_pi Po) Px mc ms) (hn : narrow ty (.int r) = .int r) (hd : decode cc pc = .ok (.ireturn, 1)) (hcs : c ≤ mc ∧ n ≤ ms) (h : Po r M) : zw_Z X M c n pc lv [.int r] := by
  obtain ⟨hx, hb, -, -, -, -, hlk, -⟩ := K
  obtain ⟨hr, hQ⟩ := hE
  intro H locs ls hH hS hl
  rw [hQ]
  refine W.widen hcs.1 hcs.2 (vx_ret ?_)
  exact W.zret hx hb hr hn (fun t ht hW => ⟨_, M, rfl, ⟨r, rfl, h⟩, by rw [ht]; exact hH, hS.F ht⟩) hS.2.2 hd hlk
theorem zw_vret {Po : zw_M → Prop} (K : zw_K X cc nL own rm) (hE : zw_E X none (zw_pv Po) Px mc ms) (hd : decode cc pc = .ok (.return_, 1)) (hcs : c ≤ mc ∧ n ≤ ms) (h : Po M) : zw_Z X M c n pc lv [] := by
  obtain ⟨hx, hb, -, -, -, -, hlk, -⟩ := K
  obtain ⟨hr, hQ⟩ := hE
  intro H locs ls hH hS hl
  rw [hQ]
  refine W.widen hcs.1 hcs.2 (vx_ret ?_)
  exact W.vret hx hb hr (fun t ht hW => ⟨_, M, rfl, ⟨rfl, h⟩, by rw [ht]; exact hH, hS.F ht⟩) hS.2.2 hd hlk
theorem zw_aret {Po : Option Nat → zw_M → Prop} {r : Option Nat} {rt : FieldType} (K : zw_K X cc nL own rm) (hE : zw_E X (some rt) (zw_pr Po) Px mc ms) (hrt : (∃ n, rt = .object n) ∨ ∃ t, rt = .array t) (hd : decode cc pc = .ok (.areturn, 1)) (hcs : c ≤ mc ∧ n ≤ ms) (h : Po r M) : zw_Z X M c n pc lv [va_rf r] := by
  obtain ⟨hx, hb, -, -, -, -, hlk, -⟩ := K
  obtain ⟨hr, hQ⟩ := hE
  intro H locs ls hH hS hl
  rw [hQ]
  refine W.widen hcs.1 hcs.2 (vx_ret ?_)
  exact W.aret hx hb hr hrt (by cases r with | none => exact Or.inl rfl | some a => exact Or.inr ⟨a, rfl⟩) (fun t ht hW => ⟨_, M, rfl, ⟨r, rfl, h⟩, by rw [ht]; exact hH, hS.F ht⟩) hS.2.2 hd hlk
/-- an exception that this method doesn't catch: it has no handlers -/
theorem zw_out {Po : Option Value → zw_M → Prop} {ret : Option FieldType} {E : String} (K : zw_K X cc nL own rm) (hE : zw_E X ret Po Px mc ms) (htab : ∀ x ∈ X.2.2.2.2.2.2.2.2.2.1.exceptionTable.toList, False) (hcs : c ≤ mc ∧ n ≤ ms) (h : Px E M) : zw_ZX X M c n pc lv E := by
  obtain ⟨hx, hb, -, -, -, -, hlk, -⟩ := K
  obtain ⟨hr, hQ⟩ := hE
  intro H locs ls q ce rest hH hS hl h1 h2 h3
  rw [hQ]
  exact vx_out (fun x hx => (htab x hx).elim) hlk h1 h2 h3 (fun t ht _ => ⟨M, h, by rw [ht]; exact hH, hS.F ht⟩) hS.2.2 hcs.1 hcs.2
/-- throw new E("text") -/
theorem zw_throw {Po : Option Value → zw_M → Prop} {ret : Option FieldType} {cls text : String} {names : List String} {ik is ic i : Nat} (K : zw_K X cc nL own rm) (hE : zw_E X ret Po Px mc ms) (htab : ∀ x ∈ X.2.2.2.2.2.2.2.2.2.1.exceptionTable.toList, False) (ho : own = "CartelWatch")
    (hcls : Bundle.fit cls = true) (hnames : ∀ n ∈ names, Bundle.fit n = true) (hk : Cond.classLink own ik cls ∈ lw_all) (hini : Cond.initialized cls ∈ lw_all) (hstr : zw_txt[i]? = some (is, text)) (hat : ∀ q ∈ vx_atS own ic cls names, q ∈ lw_tbl ∧ (goodWord q || zw_nw q) = true)
    (d0 : decode cc pc = .ok (.new ik, 3)) (d3 : decode cc (pc + 3) = .ok (.dup, 1)) (d4 : decode cc (pc + 4) = .ok (.ldc is, 2)) (d6 : decode cc (pc + 6) = .ok (.invokespecial ic, 3)) (d9 : decode cc (pc + 9) = .ok (.athrow, 1))
    (hR1 : names.length + 3 < rm.frames) (hR2 : (st.map fun v => v.category).sum + (13 * (names.length + 1) + 43) ≤ rm.locals) (hR3 : c + 1 ≤ rm.cells) (hR4 : n + 6 ≤ rm.slots) (hcs : c + 1 ≤ mc ∧ n + 6 ≤ ms) (h : Px cls M) : zw_Z X M c n pc lv st := by
  obtain ⟨hx, hb, hml, hown, hts, hR, hlk, hT, hl0⟩ := K
  obtain ⟨hr, hQ⟩ := hE
  subst ho
  intro H locs ls hH hS hl
  rw [hQ]
  have hhat : ∀ q ∈ vx_atS "CartelWatch" ic cls names, q.before X.2.2.2.2.2.2.1 X.2.2.2.2.1 = true := by
    intro q hq
    obtain ⟨m1, m2⟩ := hat q hq
    cases hg : goodWord q with
    | true => exact hts q (lw_g m1 hg)
    | false =>
      rw [hg, Bool.false_or] at m2
      have := hT.2.2.2.2.2.1 q m1 m2
      exact va_Nw.use (by cases q <;> first | rfl | (simp [zw_nw] at m2)) this
  refine vx_throwS (names := names) (sa := zw_k X.2.2.2.2.2.2.2.2.2.2.2 (7 + i)) hx hb hl0 hown hcls hnames (hts _ hk) (hts _ hini) (hT.2.2.2.2.1 i _ hstr) hhat ?_ hT.2.2.1.1 hT.2.2.1.2 hS ?_ d0 d3 d4 d6 d9 (fun x hx => (htab x hx).elim) (by rw [hR]; exact hR1) (by rw [hR]; exact hR2) (by rw [hR]; exact hR3) (by rw [hR]; exact hR4) hlk ?_ hS.2.2 hcs.1 hcs.2
  · intro q hq
    rcases List.mem_cons.mp hq with e | hq
    · rw [e]; rfl
    · rcases List.mem_cons.mp hq with e | hq
      · rw [e]; rfl
      · obtain ⟨m1, m2⟩ := hat q hq
        cases hg : goodWord q with
        | true => simp [vx_ot, hg]
        | false =>
          rw [hg, Bool.false_or] at m2
          have : q.onTables = true := by cases q <;> first | rfl | (simp [zw_nw] at m2)
          simp [vx_ot, this]
  · exact hl.1
  · intro t hA hz hk
    obtain ⟨ws, ar, g1, g2, g3⟩ := hH
    exact ⟨M, h, ⟨ws, ar, g1.kept (fun k q hq => hk q.1 (g1 k q hq).lt), g2, g3⟩, Nat.le_trans hS.1 hz, fun q h1 h2 => by rw [hk q (Nat.lt_of_lt_of_le h1 hS.1)]; exact hS.2.1 q h1 h2⟩
end ZR
/-! calls -/
section ZC
variable {y : MethodName} {bytes : ByteArray} {maxL : Nat} {ret : Option FieldType} {rc : Room} {As rest : List Value} {Po : Option Value → zw_M → Prop} {Px : String → zw_M → Prop} {index c' n' : Nat}
theorem zw_back3 {a : Array Value} {st0 : List Value} (hr : ∀ (H : Heap) (locs : List Loc) (ls : Array Slot), zw_H X.2.2.2.2.2.2.2.2.2.2.2 M H → va_S (zw_A X.2.2.2.2.2.2.2.2.2.2.2) X.2.2.2.2.1.heap H locs → zw_L ls X.2.2.2.2.2.2.2.2.2.1.maxLocals lv →
      vx_Run X.1 X.2.1 X.2.2.1 X.2.2.2.1 X.2.2.2.2.1 X.2.2.2.2.2.1 X.2.2.2.2.2.2.1 X.2.2.2.2.2.2.2.1 X.2.2.2.2.2.2.2.2.1 X.2.2.2.2.2.2.2.2.2.1 H locs c n rc.cells rc.slots (F0 X.2.2.2.2.2.1 pc ls st0) rest (zw_Q X.2.2.2.2.2.2.2.2.2.2.2 Po a) (zw_QX X.2.2.2.2.2.2.2.2.2.2.2 Px) (zw_A X.2.2.2.2.2.2.2.2.2.2.2))
    (hc : c + rc.cells ≤ c' ∧ n + rc.slots ≤ n') (kk : ∀ (v : Option Value) (M1 : zw_M), Po v M1 → zw_Z X M1 c' n' (pc + 3) lv (v.toList ++ rest)) (kx : ∀ (E : String) (M1 : zw_M), Px E M1 → zw_ZX X M1 c' n' pc lv E) : zw_Z X M c n pc lv st0 := by
  intro H locs ls hH hS hl T hT Y
  rcases hr H locs ls hH hS hl T hT Y with ⟨v, st₀, t, T', L, h0, Y', hL, e1, e2, ⟨v2, M1, hv, hp, hH1, hF⟩, go⟩ | ⟨q, st₀, t, T', L, E, ce, h0, Y', hL, e1, e2, ⟨M1, hp, hH1, hF⟩, hce, hcv, hcl, go⟩
  · cases hv
    obtain ⟨k1, k2, k3⟩ := vx_keep h0 e1 hS (fun _ _ h => h) (fun _ h => h) hL hF
    obtain ⟨t2, a1, b1⟩ := W.widen hc.1 hc.2 (kk v M1 hp T'.heap (locs ++ L) ls (by rw [e1]; exact hH1) k3 hl) T' rfl Y'
    exact ⟨t2, go t2 a1, b1⟩
  · obtain ⟨k1, k2, k3⟩ := vx_keep h0 e1 hS (fun _ _ h => h) (fun _ h => h) hL hF
    obtain ⟨t2, a1, b1⟩ := vx_widen hc.1 hc.2 (kx E M1 hp T'.heap (locs ++ L) ls q ce rest (by rw [e1]; exact hH1) k3 hl (by rw [e1]; exact hce) hcv hcl) T' rfl Y'
    exact ⟨t2, go.trans a1, b1⟩
theorem zw_back5 {a : Array Value} {st0 : List Value} (hr : ∀ (H : Heap) (locs : List Loc) (ls : Array Slot), zw_H X.2.2.2.2.2.2.2.2.2.2.2 M H → va_S (zw_A X.2.2.2.2.2.2.2.2.2.2.2) X.2.2.2.2.1.heap H locs → zw_L ls X.2.2.2.2.2.2.2.2.2.1.maxLocals lv →
      vx_Run5 X.1 X.2.1 X.2.2.1 X.2.2.2.1 X.2.2.2.2.1 X.2.2.2.2.2.1 X.2.2.2.2.2.2.1 X.2.2.2.2.2.2.2.1 X.2.2.2.2.2.2.2.2.1 X.2.2.2.2.2.2.2.2.2.1 H locs c n rc.cells rc.slots (F0 X.2.2.2.2.2.1 pc ls st0) rest (zw_Q X.2.2.2.2.2.2.2.2.2.2.2 Po a) (zw_QX X.2.2.2.2.2.2.2.2.2.2.2 Px) (zw_A X.2.2.2.2.2.2.2.2.2.2.2))
    (hc : c + rc.cells ≤ c' ∧ n + rc.slots ≤ n') (kk : ∀ (v : Option Value) (M1 : zw_M), Po v M1 → zw_Z X M1 c' n' (pc + 5) lv (v.toList ++ rest)) (kx : ∀ (E : String) (M1 : zw_M), Px E M1 → zw_ZX X M1 c' n' pc lv E) : zw_Z X M c n pc lv st0 := by
  intro H locs ls hH hS hl T hT Y
  rcases hr H locs ls hH hS hl T hT Y with ⟨v, st₀, t, T', L, h0, Y', hL, e1, e2, ⟨v2, M1, hv, hp, hH1, hF⟩, go⟩ | ⟨q, st₀, t, T', L, E, ce, h0, Y', hL, e1, e2, ⟨M1, hp, hH1, hF⟩, hce, hcv, hcl, go⟩
  · cases hv
    obtain ⟨k1, k2, k3⟩ := vx_keep h0 e1 hS (fun _ _ h => h) (fun _ h => h) hL hF
    obtain ⟨t2, a1, b1⟩ := W.widen hc.1 hc.2 (kk v M1 hp T'.heap (locs ++ L) ls (by rw [e1]; exact hH1) k3 hl) T' rfl Y'
    exact ⟨t2, go t2 a1, b1⟩
  · obtain ⟨k1, k2, k3⟩ := vx_keep h0 e1 hS (fun _ _ h => h) (fun _ h => h) hL hF
    obtain ⟨t2, a1, b1⟩ := vx_widen hc.1 hc.2 (kx E M1 hp T'.heap (locs ++ L) ls q ce rest (by rw [e1]; exact hH1) k3 hl (by rw [e1]; exact hce) hcv hcl) T' rfl Y'
    exact ⟨t2, go.trans a1, b1⟩
theorem zw_blind {w : zw_W} {av : List Value} : FrameBlind (va_Pc av (fun U => zw_T w U ∧ zw_H w M U.heap)) := by
  intro a U g mk h
  exact ⟨h.1, h.2.1.calling g mk a, h.2.2⟩
theorem zw_pre (hT : zw_T X.2.2.2.2.2.2.2.2.2.2.2 X.2.2.2.2.1) {H : Heap} {locs : List Loc} (hH : zw_H X.2.2.2.2.2.2.2.2.2.2.2 M H) (hS : va_S (zw_A X.2.2.2.2.2.2.2.2.2.2.2) X.2.2.2.2.1.heap H locs) {av : List Value} : ∀ U : State, U.heap = H → X.2.2.2.2.1.WarmedH U.vm → va_Pc av (fun U => zw_T X.2.2.2.2.2.2.2.2.2.2.2 U ∧ zw_H X.2.2.2.2.2.2.2.2.2.2.2 M U.heap) av.toArray U :=
  fun U hU hW => ⟨rfl, hT.step hS hU hW, by rw [hU]; exact hH⟩
theorem zw_callS (K : zw_K X cc nL own rm) (ct : zw_C X.2.2.2.2.2.2.2.2.2.2.2 X.2.1 y bytes maxL ret rc As M Po Px) (h1 : Cond.methodLink own index y ∈ lw_all) (h2 : Cond.static y ∈ lw_all) (h3 : Cond.initialized y.cls ∈ lw_all) (h4 : Cond.code y bytes maxL ret ∈ lw_all) (hd3 : y.cls ≠ "java/lang/invoke/MethodHandle" ∧ y.cls ≠ "java/lang/invoke/VarHandle" ∧ (parseMethodDescriptor y.desc).map (fun d => d.parameters.length) = some As.length)
    (hst : st = As.reverse ++ rest) (hd : decode cc pc = .ok (.invokestatic index, 3)) (hp : pc + 3 = pc') (hW : (rest.map fun v => v.category).sum ≤ 8) (hR : rc.frames + 1 ≤ rm.frames ∧ 8 + (maxL + 11) + rc.locals ≤ rm.locals) (hc : c + rc.cells ≤ c' ∧ n + rc.slots ≤ n' ∧ c' ≤ rm.cells ∧ n' ≤ rm.slots)
    (kk : ∀ (v : Option Value) (M1 : zw_M), Po v M1 → zw_Z X M1 c' n' pc' lv (v.toList ++ rest)) (kx : ∀ (E : String) (M1 : zw_M), Px E M1 → zw_ZX X M1 c' n' pc lv E) : zw_Z X M c n pc lv st := by
  subst hp; subst hst
  obtain ⟨hx, hb, hml, hown, hts, hRR, -, hT, -⟩ := K
  refine zw_back3 (rest := rest) (a := As.toArray) (fun H locs ls hH hS hl => ?_) ⟨hc.1, hc.2.1⟩ kk kx
  exact vx_runS ⟨hx, hb, hml, hown, hts⟩ ct (va_cwS As.length hts (lw_S h1 h2 h3 h4) rfl rfl rfl hd3 (by rw [hRR]; exact hR)) ⟨zw_blind, zw_pre hT hH hS⟩ rfl rfl (hl.1.trans hml) rfl (lv_room hW) hd (by rw [hRR]; omega)
theorem zw_callV (K : zw_K X cc nL own rm) {b ci : Nat} {rr : vw_C} {fs : List Value} (ct : zw_C X.2.2.2.2.2.2.2.2.2.2.2 X.2.1 y bytes maxL ret rc (.ref b :: As) M Po Px) (hci : zw_cl[ci]? = some rr) (h1 : Cond.methodLink own index y ∈ lw_all) (h2 : Cond.instanceMethod y ∈ lw_all) (h3 : Cond.selects rr.1 y y ∈ lw_all) (h4 : Cond.initialized rr.1 ∈ lw_all) (h5 : Cond.code y bytes maxL ret ∈ lw_all) (hd3 : y.cls = rr.1 ∧ y.cls ≠ "java/lang/invoke/MethodHandle" ∧ y.cls ≠ "java/lang/invoke/VarHandle" ∧ (parseMethodDescriptor y.desc).map (fun d => d.parameters.length) = some As.length)
    (hM : M b = some (.inl (.inr (ci, fs)))) (hst : st = As.reverse ++ .ref b :: rest) (hd : decode cc pc = .ok (.invokevirtual index, 3)) (hp : pc + 3 = pc') (hW : (rest.map fun v => v.category).sum ≤ 8) (hR : rc.frames + 1 ≤ rm.frames ∧ 8 + (maxL + 11) + rc.locals ≤ rm.locals) (hc : c + rc.cells ≤ c' ∧ n + rc.slots ≤ n' ∧ c' ≤ rm.cells ∧ n' ≤ rm.slots)
    (kk : ∀ (v : Option Value) (M1 : zw_M), Po v M1 → zw_Z X M1 c' n' pc' lv (v.toList ++ rest)) (kx : ∀ (E : String) (M1 : zw_M), Px E M1 → zw_ZX X M1 c' n' pc lv E) : zw_Z X M c n pc lv st := by
  subst hp; subst hst
  have hrc := fun H hH => zw_recv K (H := H) hH hci hM
  obtain ⟨hx, hb, hml, hown, hts, hRR, -, hT, -⟩ := K
  refine zw_back3 (rest := rest) (a := (Value.ref b :: As).toArray) (fun H locs ls hH hS hl => ?_) ⟨hc.1, hc.2.1⟩ kk kx
  exact vx_runV ⟨hx, hb, hml, hown, hts⟩ ct (cwV As.length hts (lw_V h1 h2 h3 h4 h5) rfl rfl rfl hd3 (by rw [hRR]; exact hR)) ⟨zw_blind, hrc H hH, zw_pre hT hH hS⟩ rfl rfl (hl.1.trans hml) rfl (lv_room hW) hd (by rw [hRR]; omega)
theorem zw_callI (K : zw_K X cc nL own rm) {b : Nat} (ct : zw_C X.2.2.2.2.2.2.2.2.2.2.2 X.2.1 y bytes maxL none rc (.ref b :: As) M Po Px) (h1 : Cond.methodLink own index y ∈ lw_all) (h2 : Cond.instanceMethod y ∈ lw_all) (h4 : Cond.initialized y.cls ∈ lw_all) (h5 : Cond.code y bytes maxL none ∈ lw_all) (hy : y.name = "<init>") (hd3 : y.cls ≠ "java/lang/invoke/MethodHandle" ∧ y.cls ≠ "java/lang/invoke/VarHandle" ∧ (parseMethodDescriptor y.desc).map (fun d => d.parameters.length) = some As.length)
    (hst : st = As.reverse ++ .ref b :: rest) (hd : decode cc pc = .ok (.invokespecial index, 3)) (hp : pc + 3 = pc') (hW : (rest.map fun v => v.category).sum ≤ 8) (hR : rc.frames + 1 ≤ rm.frames ∧ 8 + (maxL + 11) + rc.locals ≤ rm.locals) (hc : c + rc.cells ≤ c' ∧ n + rc.slots ≤ n' ∧ c' ≤ rm.cells ∧ n' ≤ rm.slots)
    (kk : ∀ (v : Option Value) (M1 : zw_M), Po v M1 → zw_Z X M1 c' n' pc' lv (v.toList ++ rest)) (kx : ∀ (E : String) (M1 : zw_M), Px E M1 → zw_ZX X M1 c' n' pc lv E) : zw_Z X M c n pc lv st := by
  subst hp; subst hst
  obtain ⟨hx, hb, hml, hown, hts, hRR, -, hT, -⟩ := K
  refine zw_back3 (rest := rest) (a := (Value.ref b :: As).toArray) (fun H locs ls hH hS hl => ?_) ⟨hc.1, hc.2.1⟩ kk kx
  exact vx_runI ⟨hx, hb, hml, hown, hts⟩ ct (cwI As.length hts (lw_meth h5) rfl rfl rfl (hts _ h4) (hts _ h1) (hts _ h2) hy hd3 (by rw [hRR]; exact hR)) ⟨zw_blind, zw_pre hT hH hS⟩ rfl rfl (hl.1.trans hml) rfl (lv_room hW) hd (by rw [hRR]; omega)
theorem zw_callIN (K : zw_K X cc nL own rm) {b : Nat} {host : String} (ct : zw_C X.2.2.2.2.2.2.2.2.2.2.2 X.2.1 y bytes maxL none rc (.ref b :: As) M Po Px) (h1 : Cond.methodLinkNest own index y host ∈ lw_tbl) (h2 : Cond.instanceMethod y ∈ lw_all) (h4 : Cond.initialized y.cls ∈ lw_all) (h5 : Cond.code y bytes maxL none ∈ lw_all) (hy : y.name = "<init>") (hd3 : y.cls ≠ "java/lang/invoke/MethodHandle" ∧ y.cls ≠ "java/lang/invoke/VarHandle" ∧ (parseMethodDescriptor y.desc).map (fun d => d.parameters.length) = some As.length)
    (hst : st = As.reverse ++ .ref b :: rest) (hd : decode cc pc = .ok (.invokespecial index, 3)) (hp : pc + 3 = pc') (hW : (rest.map fun v => v.category).sum ≤ 8) (hR : rc.frames + 1 ≤ rm.frames ∧ 8 + (maxL + 11) + rc.locals ≤ rm.locals) (hc : c + rc.cells ≤ c' ∧ n + rc.slots ≤ n' ∧ c' ≤ rm.cells ∧ n' ≤ rm.slots)
    (kk : ∀ (v : Option Value) (M1 : zw_M), Po v M1 → zw_Z X M1 c' n' pc' lv (v.toList ++ rest)) (kx : ∀ (E : String) (M1 : zw_M), Px E M1 → zw_ZX X M1 c' n' pc lv E) : zw_Z X M c n pc lv st := by
  subst hp; subst hst
  obtain ⟨hx, hb, hml, hown, hts, hRR, -, hT, -⟩ := K
  refine zw_back3 (rest := rest) (a := (Value.ref b :: As).toArray) (fun H locs ls hH hS hl => ?_) ⟨hc.1, hc.2.1⟩ kk kx
  exact vx_runIN ⟨hx, hb, hml, hown, hts⟩ ct ⟨va_cnB As.length hts (lw_meth h5) rfl rfl rfl (hT.2.2.2.2.2.1 _ h1 rfl) (hts _ h4) hd3 (by rw [hRR]; exact hR), hy, hts _ h2⟩ ⟨zw_blind, zw_pre hT hH hS⟩ rfl rfl (hl.1.trans hml) rfl (lv_room hW) hd (by rw [hRR]; omega)
/-- a call of java.util.List by its interface: the receiver is an ArrayList -/
theorem zw_callF (K : zw_K X cc nL own rm) {x : MethodName} {b count ln : Nat} {el : Nat → Nat} (ct : zw_C X.2.2.2.2.2.2.2.2.2.2.2 X.2.1 y bytes maxL ret rc (.ref b :: As) M Po Px) (hF : zw_T X.2.2.2.2.2.2.2.2.2.2.2 X.2.2.2.2.1 → va_Fw RJ2 x y X.2.2.2.2.1) (h1 : Cond.methodLink own index x ∈ lw_all) (h3 : Cond.selects RJ2 x y ∈ lw_all) (h2 : Cond.instanceMethod y ∈ lw_all) (h4 : Cond.initialized y.cls ∈ lw_all) (h5 : Cond.code y bytes maxL ret ∈ lw_all) (hd3 : x.cls ≠ "java/lang/invoke/MethodHandle" ∧ x.cls ≠ "java/lang/invoke/VarHandle" ∧ (parseMethodDescriptor x.desc).map (fun d => d.parameters.length) = some As.length)
    (hM : M b = some (.inr (ln, el))) (hst : st = As.reverse ++ .ref b :: rest) (hd : decode cc pc = .ok (.invokeinterface index count, 5)) (hp : pc + 5 = pc') (hW : (rest.map fun v => v.category).sum ≤ 8) (hR : rc.frames + 1 ≤ rm.frames ∧ 8 + (maxL + 11) + rc.locals ≤ rm.locals) (hc : c + rc.cells ≤ c' ∧ n + rc.slots ≤ n' ∧ c' ≤ rm.cells ∧ n' ≤ rm.slots)
    (kk : ∀ (v : Option Value) (M1 : zw_M), Po v M1 → zw_Z X M1 c' n' pc' lv (v.toList ++ rest)) (kx : ∀ (E : String) (M1 : zw_M), Px E M1 → zw_ZX X M1 c' n' pc lv E) : zw_Z X M c n pc lv st := by
  subst hp; subst hst
  have hrc := fun H hH => zw_recvL K (H := H) hH hM
  obtain ⟨hx, hb, hml, hown, hts, hRR, -, hT, -⟩ := K
  refine zw_back5 (rest := rest) (a := (Value.ref b :: As).toArray) (fun H locs ls hH hS hl => ?_) ⟨hc.1, hc.2.1⟩ kk kx
  have hgood : GoodIn lw_all (va_wsF own index RJ2 x y (ws_ y bytes maxL ret)) := by
    refine lw_app ?_ (lw_meth h5)
    intro w hw
    simp only [List.mem_cons, List.not_mem_nil, or_false] at hw
    rcases hw with e | e | e | e
    · rw [e]; exact h1
    · rw [e]; exact h3
    · rw [e]; exact h2
    · rw [e]; exact h4
  exact vx_runF (hT.1.1 5 _ rfl).2 ⟨hx, hb, hml, hown, hts⟩ ct (va_cwF As.length hts hgood rfl rfl rfl (hF hT) hd3 (by rw [hRR]; exact hR)) ⟨zw_blind, hrc H hH, zw_pre hT hH hS⟩ rfl rfl (hl.1.trans hml) rfl (lv_room hW) hd (by rw [hRR]; omega)
theorem zw_ki {Po : Int32 → zw_M → Prop} (h : ∀ (r : Int32) (M1 : zw_M), Po r M1 → zw_Z X M1 c n pc lv (.int r :: rest)) : ∀ (v : Option Value) (M1 : zw_M), zw_pi Po v M1 → zw_Z X M1 c n pc lv (v.toList ++ rest) := by
  rintro v M1 ⟨r, rfl, hp⟩
  exact h r M1 hp
theorem zw_kv {Po : zw_M → Prop} (h : ∀ (M1 : zw_M), Po M1 → zw_Z X M1 c n pc lv rest) : ∀ (v : Option Value) (M1 : zw_M), zw_pv Po v M1 → zw_Z X M1 c n pc lv (v.toList ++ rest) := by
  rintro v M1 ⟨rfl, hp⟩
  exact h M1 hp
theorem zw_kr {Po : Option Nat → zw_M → Prop} (h : ∀ (r : Option Nat) (M1 : zw_M), Po r M1 → zw_Z X M1 c n pc lv (va_rf r :: rest)) : ∀ (v : Option Value) (M1 : zw_M), zw_pr Po v M1 → zw_Z X M1 c n pc lv (v.toList ++ rest) := by
  rintro v M1 ⟨r, rfl, hp⟩
  exact h r M1 hp
theorem zw_kn : ∀ (E : String) (M1 : zw_M), zw_no E M1 → zw_ZX X M1 c n pc lv E := fun E M1 h => h.elim
end ZC
/-- java.lang.Math.max, min -/
theorem zw_max (K : zw_K X cc nL own rm) {index : Nat} {x y : Int32} (h1 : Cond.methodLink own index Lib.Math.max.name ∈ lw_all) (h2 : Cond.static Lib.Math.max.name ∈ lw_all) (h3 : Cond.initialized "java/lang/Math" ∈ lw_all) (h4 : Cond.code Lib.Math.max.name Lib.Math.max.code 2 (some .int) ∈ lw_all) (hr : 1 ≤ rm.frames ∧ (st.map fun v => v.category).sum + 13 ≤ rm.locals ∧ c ≤ rm.cells ∧ n ≤ rm.slots) (hd : decode cc pc = .ok (.invokestatic index, 3)) (hp : pc + 3 = pc') (k : zw_Z X M c n pc' lv (.int (if x < y then y else x) :: st)) : zw_Z X M c n pc lv (.int y :: .int x :: st) := by
  subst hp
  obtain ⟨hx, hb, -, hown, hts, hR, -, hT, -⟩ := K
  intro H locs ls hH hS hl
  exact va_mmax hx hb hl.1.symm hown (hts _ h1) (hts _ h2) (hts _ h3) (hts _ h4) (by rw [hR]; exact hr.1) (by rw [hR]; exact hr.2.1) (by rw [hR]; exact hr.2.2.1) (by rw [hR]; exact hr.2.2.2) hd (k H locs ls hH hS hl)
theorem zw_min (K : zw_K X cc nL own rm) {index : Nat} {x y : Int32} (h1 : Cond.methodLink own index Lib.Math.min.name ∈ lw_all) (h2 : Cond.static Lib.Math.min.name ∈ lw_all) (h3 : Cond.initialized "java/lang/Math" ∈ lw_all) (h4 : Cond.code Lib.Math.min.name Lib.Math.min.code 2 (some .int) ∈ lw_all) (hr : 1 ≤ rm.frames ∧ (st.map fun v => v.category).sum + 13 ≤ rm.locals ∧ c ≤ rm.cells ∧ n ≤ rm.slots) (hd : decode cc pc = .ok (.invokestatic index, 3)) (hp : pc + 3 = pc') (k : zw_Z X M c n pc' lv (.int (if y < x then y else x) :: st)) : zw_Z X M c n pc lv (.int y :: .int x :: st) := by
  subst hp
  obtain ⟨hx, hb, -, hown, hts, hR, -, hT, -⟩ := K
  intro H locs ls hH hS hl
  exact va_mmin hx hb hl.1.symm hown (hts _ h1) (hts _ h2) (hts _ h3) (hts _ h4) (by rw [hR]; exact hr.1) (by rw [hR]; exact hr.2.1) (by rw [hR]; exact hr.2.2.1) (by rw [hR]; exact hr.2.2.2) hd (k H locs ls hH hS hl)
end ZY

