/-! a lambda is made (invokedynamic), and called (invokeinterface) -/
set_option maxRecDepth 100000
theorem zm_at0 {w : zw_W} {U : State} {B : Array Value} (hT : zw_T w U) (hO : (Cond.instantiable "java/lang/Object" 0).before B U = true) : zm_F U.vm (zw_k w 20) zm0_B 25 21 24 19 ⟨"CartelWatch", "lambda$turnoverOf$0", "(ILCartelWatch$Tender;)I"⟩ "CartelWatch$Tender" [15] := by
  obtain ⟨m, k, cf, i0, p0, h1, h2, h3, h4, h5, h6, h7⟩ := hT.2.2.2.2.2.2.2.1.2.2.2 0 _ rfl
  obtain ⟨k', hk', hname⟩ := className_of_methodNamed h1
  obtain ⟨c9, k9, q1, q2, -, -, -, q6⟩ := Cond.instantiable_spec hO
  refine zm0_facts hk' hname h6 (fun o ok ho hok => ?_) (hT.1.1 1 _ rfl).2.1
  cases q1.symm.trans ho
  cases q2.symm.trans hok
  exact q6
theorem zm_at1 {w : zw_W} {U : State} {B : Array Value} (hT : zw_T w U) (hO : (Cond.instantiable "java/lang/Object" 0).before B U = true) : zm_F U.vm (zw_k w 21) zm1_B 25 21 24 19 ⟨"CartelWatch", "lambda$won$1", "(ILCartelWatch$Tender;)I"⟩ "CartelWatch$Tender" [15] := by
  obtain ⟨m, k, cf, i0, p0, h1, h2, h3, h4, h5, h6, h7⟩ := hT.2.2.2.2.2.2.2.1.2.2.2 1 _ rfl
  obtain ⟨k', hk', hname⟩ := className_of_methodNamed h1
  obtain ⟨c9, k9, q1, q2, -, -, -, q6⟩ := Cond.instantiable_spec hO
  refine zm1_facts hk' hname h6 (fun o ok ho hok => ?_) (hT.1.1 1 _ rfl).2.1
  cases q1.symm.trans ho
  cases q2.symm.trans hok
  exact q6
theorem zm_at2 {w : zw_W} {U : State} {B : Array Value} (hT : zw_T w U) (hO : (Cond.instantiable "java/lang/Object" 0).before B U = true) : zm_F U.vm (zw_k w 22) zm2_B 28 24 27 22 ⟨"CartelWatch", "lambda$file$2", "(IILCartelWatch$Inquiry;)I"⟩ "CartelWatch$Inquiry" [16, 18] := by
  obtain ⟨m, k, cf, i0, p0, h1, h2, h3, h4, h5, h6, h7⟩ := hT.2.2.2.2.2.2.2.1.2.2.2 2 _ rfl
  obtain ⟨k', hk', hname⟩ := className_of_methodNamed h1
  obtain ⟨c9, k9, q1, q2, -, -, -, q6⟩ := Cond.instantiable_spec hO
  refine zm2_facts hk' hname h6 (fun o ok ho hok => ?_) (hT.1.1 4 _ rfl).2.1
  cases q1.symm.trans ho
  cases q2.symm.trans hok
  exact q6
theorem zm_three {α : Type} {x : Array Nat} {f : Nat → Nat → Nat → Option α} {r : α} (h : Lambda.shapeOf?.match_15 (fun _ => Option α) x f (fun _ => none) = some r) : ∃ a b c, f a b c = some r := by
  rcases x with ⟨_ | ⟨a, _ | ⟨b, _ | ⟨c, _ | ⟨d, L⟩⟩⟩⟩⟩
  · cases h
  · cases h
  · cases h
  · exact ⟨a, b, c, h⟩
  · cases h
/-- what a linked site's shape says of the class file -/
theorem zm_shape {cf : ClassFile} {index : Nat} {σ : Lambda.Shape} (h : Lambda.shapeOf? cf index = some σ) : ∃ (bsm nt : Nat) (name desc : String) (sig : MethodDescriptor), cf.constantPool[index]? = some (.invokeDynamic bsm nt) ∧ cf.constantPool.nameAndType? nt = some (name, desc) ∧ parseLongMethodDescriptor desc = some sig ∧ sig.parameters = σ.captured := by
  unfold Lambda.shapeOf? at h
  split at h
  · rename_i b nt hc
    obtain ⟨entries, -, h⟩ := Option.bind_eq_some_iff.mp h
    obtain ⟨bm, -, h⟩ := Option.bind_eq_some_iff.mp h
    split at h
    · obtain ⟨u, -, h⟩ := Option.bind_eq_some_iff.mp h
      obtain ⟨a0, a1, a2, h⟩ := zm_three h
      split at h
      · split at h
        · split at h
          · obtain ⟨⟨name, desc⟩, hnt, h⟩ := Option.bind_eq_some_iff.mp h
            obtain ⟨site, hsite, h⟩ := Option.bind_eq_some_iff.mp h
            split at h
            · obtain ⟨⟨ic, im, id, ii⟩, -, h⟩ := Option.bind_eq_some_iff.mp h
              obtain ⟨x1, -, h⟩ := Option.bind_eq_some_iff.mp h
              obtain ⟨x2, -, h⟩ := Option.bind_eq_some_iff.mp h
              obtain ⟨x3, -, h⟩ := Option.bind_eq_some_iff.mp h
              obtain ⟨x4, -, h⟩ := Option.bind_eq_some_iff.mp h
              obtain ⟨x5, -, h⟩ := Option.bind_eq_some_iff.mp h
              cases h
              exact ⟨b, nt, name, desc, site, hc, hnt, parseLong_of_parse hsite, rfl⟩
            · cases h
          · cases h
        · cases h
      · cases h
    · cases h
  · cases h
theorem zm_fits {s : State} {c : ClassId} {k : Class} {j : Nat} {z : Int32} (h : s.vm.classes[c]? = some k) (hk : k.kind = .ordinary) (ht : k.instanceTypes[j]? = some .int) : s.fitsSlot c .none j (.int z) = true := by
  simp [State.fitsSlot, State.slotType?, h, hk, ht, fits]
theorem zm_cell1 (cK : ClassId) (a : Int32) : vp_cell cK (1, .inl (fun _ => a)) = { cls := cK, slots := #[.int a], vm := .none } := by
  show ({ cls := cK, slots := _, vm := .none } : Cell) = _
  congr 1
section ZMK
variable {X : zw_X} {cc : ByteArray} {nL : Nat} {own : String} {rm : Room} {M : zw_M} {c n pc pc' : Nat} {lv : List (Option Value)} {st : List Value}
theorem zw_make1 (K : zw_K X cc nL own rm) {i index : Nat} {x : MethodName} {σ : Lambda.Shape} {bs : ByteArray} {mi ci nt0 ct : Nat} {y : MethodName} {cT : String} {fl : List Nat} (hi : zw_sites[i]? = some (x, pc, index, σ)) (hnm : X.2.2.2.2.1.methodNamed? x = some X.2.2.2.2.2.1) (hcap : σ.captured.length = 1)
    (hF : zm_F X.2.2.2.2.1.vm (zw_k (zw_Xw X) (20 + i)) bs mi ci nt0 ct y cT fl) (hfl : fl.length = 1) {a : Int32} {c' n' : Nat} (hcs : c + 1 ≤ c' ∧ n + 1 ≤ n' ∧ c' ≤ rm.cells ∧ n' ≤ rm.slots) (hw : ((st.map fun v => v.category).sum + 1) + 3072 ≤ rm.locals) (hd : decode cc pc = .ok (.invokedynamic index, 5)) (hp : pc + 5 = pc')
    (kk : ∀ q : Nat, M q = none → zw_Z X (zw_u M q (.inl (.inl (zw_k (zw_Xw X) (20 + i), 1, .inl (fun _ => a))))) c' n' pc' lv (.ref q :: st)) : zw_Z X M c n pc lv (.int a :: st) := by
  subst hp
  have hA := K.hA
  obtain ⟨hx, hb, hml, hown, hts, hR, -, hT, -⟩ := K
  obtain ⟨m, k, cf, i0, p0, h1, h2, h3, h4, h5, h6, h7⟩ := hT.2.2.2.2.2.2.2.1.2.2.2 i _ hi
  cases hnm.symm.trans h1
  obtain ⟨bsm, nt, name, desc, sig, e1, e2, e3, e4⟩ := zm_shape h4
  obtain ⟨kK, tk, file, methk, ck, toy, tT, t, hkK, -, -, -, -, -, -, -, -, -, -, -, -, -, hty, hkind⟩ := hF
  rw [hfl] at hty
  intro H locs ls hH hS hl T hT0 Y
  subst hT0
  have hsl : ((kK.instanceTypes.toList.zip [.int a]).map fun (t, z) => narrow t z) = [.int a] := by rw [hty]; rfl
  have hlm := Y.lambdaMakes hx (g := F0 X.2.2.2.2.2.1 pc ls (.int a :: st)) rfl (hl.1) (by rw [hb]; exact hd) (vals := [.int a]) (rest := st) h2 h5 h3 e1 e2 e3 (by rw [e4, hcap]; rfl) rfl hkK
    (by
      rw [Y.admits.platform, hR]
      show 2 * 0 + (1 + (st.map fun v => v.category).sum) + 3072 ≤ rm.locals
      omega) (by rw [hR]; omega) (by rw [hsl, hR]; show n + 1 ≤ _; omega)
    (fun j z hz => by
      rw [hsl] at hz
      rcases j with _ | _

      · simp at hz; subst hz; exact zm_fits hkK hkind (by rw [hty]; rfl)
      · simp at hz)
  obtain ⟨X₁, st1⟩ := hlm
  rw [hsl] at X₁ st1
  obtain ⟨ws, ar, g1, g2, g3⟩ := id hH
  have o1 : ∀ q, q < T.heap.size → (T.pushCell { cls := zw_k (zw_Xw X) (20 + i), slots := ([.int a] : List Value).toArray, vm := .none }).heap[q]? = T.heap[q]? := fun q hq => State.heap_pushCell_of_lt _ _ hq
  have hnew := State.heap_pushCell_size T { cls := zw_k (zw_Xw X) (20 + i), slots := ([.int a] : List Value).toArray, vm := .none }
  have hsz : T.heap.size ≤ (T.pushCell { cls := zw_k (zw_Xw X) (20 + i), slots := ([.int a] : List Value).toArray, vm := .none }).heap.size := by
    rcases Nat.lt_or_ge (T.pushCell { cls := zw_k (zw_Xw X) (20 + i), slots := ([.int a] : List Value).toArray, vm := .none }).heap.size T.heap.size with z | z
    · have := Array.getElem?_eq_none (xs := (T.pushCell { cls := zw_k (zw_Xw X) (20 + i), slots := ([.int a] : List Value).toArray, vm := .none }).heap) (i := T.heap.size) (by omega)
      rw [this] at hnew
      cases hnew
    · exact z
  have hk : ∀ (k : Nat) (x : Nat × va_E), ws[k]? = some x → (T.pushCell { cls := zw_k (zw_Xw X) (20 + i), slots := ([.int a] : List Value).toArray, vm := .none }).heap[x.1]? = T.heap[x.1]? := fun k x hx => o1 x.1 ((g1 k x hx).lt)
  have hD := g2.push (e := .inl (zw_k (zw_Xw X) (20 + i), 1, .inl (fun _ => a))) g1 rfl (hA _ hS.1)
  obtain ⟨z1, z2⟩ := zw_push hD g3
  have hP1 : va_P (zw_D (zw_Xw X)) zw_cl (ws ++ [(T.heap.size, .inl (zw_k (zw_Xw X) (20 + i), 1, .inl (fun _ => a)))]) (T.pushCell { cls := zw_k (zw_Xw X) (20 + i), slots := ([.int a] : List Value).toArray, vm := .none }).heap := by
    refine (g1.kept hk).app (fun k x hx => ?_)
    have hz : k < 1 := (List.getElem?_eq_some_iff.mp hx).1
    rw [show k = 0 by omega] at hx
    cases hx
    exact hnew.trans (congrArg some (zm_cell1 _ a).symm)
  have hS1 : va_S (zw_A (zw_Xw X)) X.2.2.2.2.1.heap (T.pushCell { cls := zw_k (zw_Xw X) (20 + i), slots := ([.int a] : List Value).toArray, vm := .none }).heap locs := ⟨Nat.le_trans hS.1 hsz, fun q h1 h2 => (o1 q (Nat.lt_of_lt_of_le h1 hS.1)).trans (hS.2.1 q h1 h2), hS.2.2⟩
  obtain ⟨t9, a1, b1⟩ := W.widen hcs.1 hcs.2.1 (kk T.heap.size z1 _ locs ls ⟨_, ar, hP1, hD, z2⟩ hS1 hl) _ rfl X₁
  exact ⟨t9, st1 t9 a1, b1⟩
end ZMK
theorem zm_cell2 (cK : ClassId) (a b : Int32) : vp_cell cK (2, .inl (fun j => if j = 0 then a else b)) = { cls := cK, slots := #[.int a, .int b], vm := .none } := by
  show ({ cls := cK, slots := _, vm := .none } : Cell) = _
  congr 1
section ZMK
variable {X : zw_X} {cc : ByteArray} {nL : Nat} {own : String} {rm : Room} {M : zw_M} {c n pc pc' : Nat} {lv : List (Option Value)} {st : List Value}
theorem zw_make2 (K : zw_K X cc nL own rm) {i index : Nat} {x : MethodName} {σ : Lambda.Shape} {bs : ByteArray} {mi ci nt0 ct : Nat} {y : MethodName} {cT : String} {fl : List Nat} (hi : zw_sites[i]? = some (x, pc, index, σ)) (hnm : X.2.2.2.2.1.methodNamed? x = some X.2.2.2.2.2.1) (hcap : σ.captured.length = 2)
    (hF : zm_F X.2.2.2.2.1.vm (zw_k (zw_Xw X) (20 + i)) bs mi ci nt0 ct y cT fl) (hfl : fl.length = 2) {a b : Int32} {c' n' : Nat} (hcs : c + 1 ≤ c' ∧ n + 2 ≤ n' ∧ c' ≤ rm.cells ∧ n' ≤ rm.slots) (hw : ((st.map fun v => v.category).sum + 2) + 3072 ≤ rm.locals) (hd : decode cc pc = .ok (.invokedynamic index, 5)) (hp : pc + 5 = pc')
    (kk : ∀ q : Nat, M q = none → zw_Z X (zw_u M q (.inl (.inl (zw_k (zw_Xw X) (20 + i), 2, .inl (fun j => if j = 0 then a else b))))) c' n' pc' lv (.ref q :: st)) : zw_Z X M c n pc lv (.int b :: .int a :: st) := by
  subst hp
  have hA := K.hA
  obtain ⟨hx, hb, hml, hown, hts, hR, -, hT, -⟩ := K
  obtain ⟨m, k, cf, i0, p0, h1, h2, h3, h4, h5, h6, h7⟩ := hT.2.2.2.2.2.2.2.1.2.2.2 i _ hi
  cases hnm.symm.trans h1
  obtain ⟨bsm, nt, name, desc, sig, e1, e2, e3, e4⟩ := zm_shape h4
  obtain ⟨kK, tk, file, methk, ck, toy, tT, t, hkK, -, -, -, -, -, -, -, -, -, -, -, -, -, hty, hkind⟩ := hF
  rw [hfl] at hty
  intro H locs ls hH hS hl T hT0 Y
  subst hT0
  have hsl : ((kK.instanceTypes.toList.zip [.int a, .int b]).map fun (t, z) => narrow t z) = [.int a, .int b] := by rw [hty]; rfl
  have hlm := Y.lambdaMakes hx (g := F0 X.2.2.2.2.2.1 pc ls (.int b :: .int a :: st)) rfl (hl.1) (by rw [hb]; exact hd) (vals := [.int a, .int b]) (rest := st) h2 h5 h3 e1 e2 e3 (by rw [e4, hcap]; rfl) rfl hkK
    (by
      rw [Y.admits.platform, hR]
      show 2 * 0 + (1 + (1 + (st.map fun v => v.category).sum)) + 3072 ≤ rm.locals
      omega) (by rw [hR]; omega) (by rw [hsl, hR]; show n + 2 ≤ _; omega)
    (fun j z hz => by
      rw [hsl] at hz
      rcases j with _ | _ | _

      · simp at hz; subst hz; exact zm_fits hkK hkind (by rw [hty]; rfl)
      · simp at hz; subst hz; exact zm_fits hkK hkind (by rw [hty]; rfl)
      · simp at hz)
  obtain ⟨X₁, st1⟩ := hlm
  rw [hsl] at X₁ st1
  obtain ⟨ws, ar, g1, g2, g3⟩ := id hH
  have o1 : ∀ q, q < T.heap.size → (T.pushCell { cls := zw_k (zw_Xw X) (20 + i), slots := ([.int a, .int b] : List Value).toArray, vm := .none }).heap[q]? = T.heap[q]? := fun q hq => State.heap_pushCell_of_lt _ _ hq
  have hnew := State.heap_pushCell_size T { cls := zw_k (zw_Xw X) (20 + i), slots := ([.int a, .int b] : List Value).toArray, vm := .none }
  have hsz : T.heap.size ≤ (T.pushCell { cls := zw_k (zw_Xw X) (20 + i), slots := ([.int a, .int b] : List Value).toArray, vm := .none }).heap.size := by
    rcases Nat.lt_or_ge (T.pushCell { cls := zw_k (zw_Xw X) (20 + i), slots := ([.int a, .int b] : List Value).toArray, vm := .none }).heap.size T.heap.size with z | z
    · have := Array.getElem?_eq_none (xs := (T.pushCell { cls := zw_k (zw_Xw X) (20 + i), slots := ([.int a, .int b] : List Value).toArray, vm := .none }).heap) (i := T.heap.size) (by omega)
      rw [this] at hnew
      cases hnew
    · exact z
  have hk : ∀ (k : Nat) (x : Nat × va_E), ws[k]? = some x → (T.pushCell { cls := zw_k (zw_Xw X) (20 + i), slots := ([.int a, .int b] : List Value).toArray, vm := .none }).heap[x.1]? = T.heap[x.1]? := fun k x hx => o1 x.1 ((g1 k x hx).lt)
  have hD := g2.push (e := .inl (zw_k (zw_Xw X) (20 + i), 2, .inl (fun j => if j = 0 then a else b))) g1 rfl (hA _ hS.1)
  obtain ⟨z1, z2⟩ := zw_push hD g3
  have hP1 : va_P (zw_D (zw_Xw X)) zw_cl (ws ++ [(T.heap.size, .inl (zw_k (zw_Xw X) (20 + i), 2, .inl (fun j => if j = 0 then a else b)))]) (T.pushCell { cls := zw_k (zw_Xw X) (20 + i), slots := ([.int a, .int b] : List Value).toArray, vm := .none }).heap := by
    refine (g1.kept hk).app (fun k x hx => ?_)
    have hz : k < 1 := (List.getElem?_eq_some_iff.mp hx).1
    rw [show k = 0 by omega] at hx
    cases hx
    exact hnew.trans (congrArg some (zm_cell2 _ a b).symm)
  have hS1 : va_S (zw_A (zw_Xw X)) X.2.2.2.2.1.heap (T.pushCell { cls := zw_k (zw_Xw X) (20 + i), slots := ([.int a, .int b] : List Value).toArray, vm := .none }).heap locs := ⟨Nat.le_trans hS.1 hsz, fun q h1 h2 => (o1 q (Nat.lt_of_lt_of_le h1 hS.1)).trans (hS.2.1 q h1 h2), hS.2.2⟩
  obtain ⟨t9, a1, b1⟩ := W.widen hcs.1 hcs.2.1 (kk T.heap.size z1 _ locs ls ⟨_, ar, hP1, hD, z2⟩ hS1 hl) _ rfl X₁
  exact ⟨t9, st1 t9 a1, b1⟩
end ZMK
