/-! The Z layer: a judgement over a map of the heap (address -> cell), a list of locals and a stack; rows over the kit's rows. -/
set_option maxRecDepth 100000
/-- an entry: a cell as it is, or an ArrayList as a whole: how many elements, which -/
abbrev zw_En : Type := va_E ⊕ (Nat × (Nat → Nat))
abbrev zw_M : Type := Nat → Option zw_En
def zw_u (M : zw_M) (a : Nat) (e : zw_En) : zw_M := fun b => if b = a then some e else M b
theorem zw_us {M : zw_M} {a : Nat} {e : zw_En} : zw_u M a e a = some e := if_pos rfl
theorem zw_un {M : zw_M} {a b : Nat} {e : zw_En} (h : b ≠ a) : zw_u M a e b = M b := if_neg h
theorem zw_un' {M : zw_M} {a b : Nat} {e e' : zw_En} (h : b ≠ a) (h2 : M b = some e') : zw_u M a e b = some e' := (if_neg h).trans h2
theorem zw_ne {M : zw_M} {a b : Nat} {e e' : zw_En} (h : M a = some e) (h' : M b = some e') (n : e ≠ e') : a ≠ b := fun q => n (Option.some.inj (h.symm.trans (q ▸ h')))
theorem zw_nn {M : zw_M} {a b : Nat} {e : zw_En} (h : M a = some e) (h' : M b = none) : a ≠ b := fun q => by rw [q, h'] at h; cases h
/-- base of the heap, classes and slots, numbers: array classes 0..4 (int boolean long Object Bid), 5 the empty Object[], 6 its class object, 7.. the texts, 20.. the lambdas' classes -/
abbrev zw_W : Type := Nat × va_G × (Nat → Nat)
def zw_B (w : zw_W) : Nat := w.1
def zw_D (w : zw_W) : va_G := w.2.1
def zw_k (w : zw_W) (k : Nat) : Nat := w.2.2 k
def zw_A (w : zw_W) : Nat → Prop := fun q => zw_B w ≤ q
/-- classes: 0 CartelWatch 1 Tender 2 Bid 3 Pair 4 Inquiry 5 ArrayList 6 the model -/
abbrev zw_cl : List vw_C := [(RX1, TX1, 4), (RX3, TX3, 5), (RX4, TX4, 2), (RX5, TX5, 2), (RX6, TX6, 7), (RJ2, TJ2, 3), (RX2, TX2, 19)]
abbrev zw_ty (w : zw_W) : List (ClassId × FieldType) := [(zw_k w 0, .int), (zw_k w 1, .boolean), (zw_k w 2, .long), (zw_k w 3, .object "java/lang/Object"), (zw_k w 4, .object "CartelWatch$Bid")]
abbrev zw_eI (w : zw_W) (n : Nat) (f : Nat → Int32) : zw_En := .inl (.inl (zw_k w 0, n, .inl f))
abbrev zw_eZ (w : zw_W) (n : Nat) (f : Nat → Int32) : zw_En := .inl (.inl (zw_k w 1, n, .inl f))
abbrev zw_eJ (w : zw_W) (n : Nat) (f : Nat → Int64) : zw_En := .inl (.inl (zw_k w 2, n, .inr (.inl f)))
abbrev zw_eO (w : zw_W) (n : Nat) (f : Nat → Option Nat) : zw_En := .inl (.inl (zw_k w 3, n, .inr (.inr (.inr (.inr f)))))
abbrev zw_eB (w : zw_W) (n : Nat) (f : Nat → Option Nat) : zw_En := .inl (.inl (zw_k w 4, n, .inr (.inr (.inr (.inr f)))))
abbrev zw_eC (ci : Nat) (fs : List Value) : zw_En := .inl (.inr (ci, fs))
abbrev zw_eL (n : Nat) (el : Nat → Nat) : zw_En := .inr (n, el)
/-- an ArrayList's cells in ws: the object l, and its array arr if it has elements -/
def zw_li (w : zw_W) (ws : va_W) (l n : Nat) (el : Nat → Nat) (arr : Nat) : Prop :=
  ∃ mc : Int32, (∃ k : Nat, ws[k]? = some (l, .inr (5, [.int mc, .ref (if n = 0 then zw_k w 5 else arr), .int (nI n)]))) ∧
    (0 < n → ∃ (cap : Nat) (f : Nat → Option Nat), (∃ k : Nat, ws[k]? = some (arr, .inl (zw_k w 3, cap, .inr (.inr (.inr (.inr f)))))) ∧ n ≤ cap ∧ cap ≤ 64 ∧ ∀ i, i < n → f i = some (el i))
def zw_Hs (w : zw_W) (M : zw_M) (ws : va_W) (ar : Nat → Nat) : Prop :=
  (∀ (a : Nat) (e : va_E), M a = some (.inl e) → ∃ k : Nat, ws[k]? = some (a, e)) ∧
  (∀ (l n : Nat) (el : Nat → Nat), M l = some (.inr (n, el)) → zw_li w ws l n el (ar l)) ∧
  (∀ (l n : Nat) (el : Nat → Nat), M l = some (.inr (n, el)) → 0 < n → M (ar l) = none ∧ ∀ (l' n' : Nat) (el' : Nat → Nat), M l' = some (.inr (n', el')) → 0 < n' → ar l = ar l' → l = l')
def zw_H (w : zw_W) (M : zw_M) (H : Heap) : Prop := ∃ (ws : va_W) (ar : Nat → Nat), va_P (zw_D w) zw_cl ws H ∧ va_D (zw_A w) ws ∧ zw_Hs w M ws ar
theorem zw_H.sub {w : zw_W} {M M' : zw_M} {H : Heap} (h : zw_H w M H) (hs : ∀ a e, M' a = some e → M a = some e) (hn : ∀ (l n : Nat) (el : Nat → Nat) (a : Nat), M' l = some (.inr (n, el)) → M a = none → M' a = none) : zw_H w M' H := by
  obtain ⟨ws, ar, h1, h2, h3, h4, h5⟩ := h
  refine ⟨ws, ar, h1, h2, fun a e he => h3 a e (hs a _ he), fun l n el he => h4 l n el (hs l _ he), fun l n el he hp => ?_⟩
  obtain ⟨g1, g2⟩ := h5 l n el (hs l _ he) hp
  exact ⟨hn l n el _ he g1, fun l' n' el' he' hp' => g2 l' n' el' (hs l' _ he') hp'⟩
theorem zw_mset {ws : va_W} {A : Nat → Prop} {k j a b : Nat} {e0 e e1 : va_E} (hD : va_D A ws) (hk : ws[k]? = some (a, e0)) (hj : ws[j]? = some (b, e1)) (hba : b ≠ a) : ∃ j : Nat, (ws.set k (a, e))[j]? = some (b, e1) := by
  have hjk : j ≠ k := by
    intro q
    subst q
    rw [hk] at hj
    cases hj
    exact hba rfl
  exact ⟨j, by rw [List.getElem?_set_ne (Ne.symm hjk)]; exact hj⟩
theorem zw_set {w : zw_W} {ws : va_W} {ar : Nat → Nat} {A : Nat → Prop} {M : zw_M} {k a : Nat} {e0 e : va_E} (hD : va_D A ws) (hk : ws[k]? = some (a, e0)) (hM : M a = some (.inl e0)) (h : zw_Hs w M ws ar) : zw_Hs w (zw_u M a (.inl e)) (ws.set k (a, e)) ar := by
  obtain ⟨h3, h4, h5⟩ := h
  have hl := (List.getElem?_eq_some_iff.mp hk).1
  have back : ∀ (l n : Nat) (el : Nat → Nat), zw_u M a (.inl e) l = some (.inr (n, el)) → l ≠ a ∧ M l = some (.inr (n, el)) := by
    intro l n el hx
    by_cases q : l = a
    · subst q
      rw [zw_us] at hx
      cases hx
    · rw [zw_un q] at hx
      exact ⟨q, hx⟩
  refine ⟨fun b e1 hb => ?_, fun l n el hx => ?_, fun l n el hx hp => ?_⟩
  · by_cases hba : b = a
    · subst hba
      rw [zw_us] at hb
      cases hb
      exact ⟨k, List.getElem?_set_self hl⟩
    · rw [zw_un hba] at hb
      obtain ⟨j, hj⟩ := h3 b e1 hb
      exact zw_mset hD hk hj hba
  · obtain ⟨hla, hm⟩ := back l n el hx
    obtain ⟨mc, ⟨j, hj⟩, h7⟩ := h4 l n el hm
    refine ⟨mc, zw_mset hD hk hj hla, fun hp => ?_⟩
    obtain ⟨cap, f, ⟨j2, hj2⟩, h8⟩ := h7 hp
    exact ⟨cap, f, zw_mset hD hk hj2 (fun q => zw_nn hM (h5 l n el hm hp).1 q.symm), h8⟩
  · obtain ⟨hla, hm⟩ := back l n el hx
    obtain ⟨g1, g2⟩ := h5 l n el hm hp
    refine ⟨?_, fun l' n' el' hx' hp' => g2 l' n' el' (back l' n' el' hx').2 hp'⟩
    rw [zw_un (fun q => zw_nn hM g1 q.symm)]
    exact g1
theorem zw_push {w : zw_W} {ws : va_W} {ar : Nat → Nat} {A : Nat → Prop} {M : zw_M} {q : Nat} {e : va_E} (hD : va_D A (ws ++ [(q, e)])) (h : zw_Hs w M ws ar) : M q = none ∧ zw_Hs w (zw_u M q (.inl e)) (ws ++ [(q, e)]) ar := by
  obtain ⟨h3, h4, h5⟩ := h
  have hlast : (ws ++ [(q, e)])[ws.length]? = some (q, e) := by simp
  have app : ∀ {j b : Nat} {e1 : va_E}, ws[j]? = some (b, e1) → (ws ++ [(q, e)])[j]? = some (b, e1) ∧ b ≠ q := by
    intro j b e1 hj
    have hl := (List.getElem?_eq_some_iff.mp hj).1
    have hj2 : (ws ++ [(q, e)])[j]? = some (b, e1) := by rw [List.getElem?_append_left hl]; exact hj
    refine ⟨hj2, fun z => ?_⟩
    have := hD.1 j ws.length _ _ hj2 hlast z
    omega
  have hq : M q = none := by
    cases hM : M q with
    | none => rfl
    | some x =>
      rcases x with e2 | ⟨n, el⟩
      · obtain ⟨j, hj⟩ := h3 q e2 hM
        exact absurd rfl (app hj).2
      · obtain ⟨mc, ⟨j, hj⟩, -⟩ := h4 q n el hM
        exact absurd rfl (app hj).2
  have back : ∀ (l n : Nat) (el : Nat → Nat), zw_u M q (.inl e) l = some (.inr (n, el)) → l ≠ q ∧ M l = some (.inr (n, el)) := by
    intro l n el hx
    by_cases z : l = q
    · subst z
      rw [zw_us] at hx
      cases hx
    · rw [zw_un z] at hx
      exact ⟨z, hx⟩
  refine ⟨hq, fun b e1 hb => ?_, fun l n el hx => ?_, fun l n el hx hp => ?_⟩
  · by_cases hba : b = q
    · subst hba
      rw [zw_us] at hb
      cases hb
      exact ⟨ws.length, hlast⟩
    · rw [zw_un hba] at hb
      obtain ⟨j, hj⟩ := h3 b e1 hb
      exact ⟨j, (app hj).1⟩
  · obtain ⟨hla, hm⟩ := back l n el hx
    obtain ⟨mc, ⟨j, hj⟩, h7⟩ := h4 l n el hm
    refine ⟨mc, ⟨j, (app hj).1⟩, fun hp => ?_⟩
    obtain ⟨cap, f, ⟨j2, hj2⟩, h8⟩ := h7 hp
    exact ⟨cap, f, ⟨j2, (app hj2).1⟩, h8⟩
  · obtain ⟨hla, hm⟩ := back l n el hx
    obtain ⟨g1, g2⟩ := h5 l n el hm hp
    refine ⟨?_, fun l' n' el' hx' hp' => g2 l' n' el' (back l' n' el' hx').2 hp'⟩
    obtain ⟨mc, -, h7⟩ := h4 l n el hm
    obtain ⟨cap, f, ⟨j2, hj2⟩, -⟩ := h7 hp
    rw [zw_un (app hj2).2]
    exact g1
/-- locals: a place that is none is not known; values of one slot -/
def zw_L (ls : Array Slot) (nL : Nat) (lv : List (Option Value)) : Prop := ls.size = nL ∧ lv_wf ls ∧ ∀ (i : Nat) (v : Value), lv[i]? = some (some v) → v.category = 1 ∧ ls[i]? = some (.val v)
theorem zw_L.at {ls : Array Slot} {nL : Nat} {lv : List (Option Value)} (h : zw_L ls nL lv) {i : Nat} {v : Value} (hi : lv[i]? = some (some v)) : ls[i]? = some (.val v) := (h.2.2 i v hi).2
def zw_lv (lv : List (Option Value)) : List (Nat × Value) := (List.range lv.length).filterMap fun i => match lv[i]? with
  | some (some v) => some (i, v)
  | _ => none
theorem zw_lv_mem {lv : List (Option Value)} {i : Nat} {v : Value} : (i, v) ∈ zw_lv lv ↔ lv[i]? = some (some v) := by
  unfold zw_lv
  rw [List.mem_filterMap]
  constructor
  · rintro ⟨j, hj, h⟩
    cases hv : lv[j]? with
    | none => rw [hv] at h; cases h
    | some o =>
      cases o with
      | none => rw [hv] at h; cases h
      | some x =>
        rw [hv] at h
        cases h
        exact hv
  · intro h
    refine ⟨i, List.mem_range.mpr (List.getElem?_eq_some_iff.mp h).1, ?_⟩
    rw [h]
theorem zw_L.has {ls : Array Slot} {nL : Nat} {lv : List (Option Value)} (h : zw_L ls nL lv) : lv_has ls nL (zw_lv lv) := ⟨h.1, h.2.1, fun q hq => (h.2.2 q.1 q.2 (zw_lv_mem.mp hq)).2⟩
theorem zw_L.store {ls ls' : Array Slot} {nL : Nat} {lv : List (Option Value)} {i : Nat} {v : Value} (h : zw_L ls nL lv) (hv : v.category = 1) (h' : lv_has ls' nL ((i, v) :: (zw_lv lv).filter (fun q => !(q.1 == i) && !(q.1 + 1 == i && q.2.category == 2)))) : zw_L ls' nL (lv.set i (some v)) := by
  refine ⟨h'.1, h'.2.1, fun j x hj => ?_⟩
  by_cases hji : j = i
  · subst hji
    have hl : j < lv.length := by
      have := (List.getElem?_eq_some_iff.mp hj).1
      simpa using this
    rw [List.getElem?_set_self hl] at hj
    cases hj
    exact ⟨hv, h'.2.2 (j, v) List.mem_cons_self⟩
  · rw [List.getElem?_set_ne (Ne.symm hji)] at hj
    have h1 := (h.2.2 j x hj).1
    refine ⟨h1, h'.2.2 (j, x) (List.mem_cons_of_mem _ (List.mem_filter.mpr ⟨zw_lv_mem.mpr hj, ?_⟩))⟩
    have e1 : (j == i) = false := by simpa using hji
    have e2 : (x.category == 2) = false := by simp [h1]
    simp [e1, e2]
theorem zw_L.weak {ls : Array Slot} {nL : Nat} {lv lv' : List (Option Value)} (h : zw_L ls nL lv) (hs : ∀ (i : Nat) (v : Value), lv'[i]? = some (some v) → lv[i]? = some (some v)) : zw_L ls nL lv' := ⟨h.1, h.2.1, fun i v hi => h.2.2 i v (hs i v hi)⟩
def zw_lv0 (av : List Value) (nL : Nat) : List (Option Value) := av.map some ++ List.replicate (nL - av.length) none
theorem zw_args (av : List Value) (hc : ∀ v ∈ av, v.category = 1) : ∀ (k i : Nat) (v : Value), (k, v) ∈ (av.zipIdx i).map (fun q => (q.2, q.1)) → (k, v) ∈ lv_args i av := by
  induction av with
  | nil => intro k i v h; simp at h
  | cons a t ih =>
    intro k i v h
    have ha : a.category = 1 := hc a List.mem_cons_self
    simp only [List.zipIdx_cons, List.map_cons, List.mem_cons] at h
    simp only [lv_args]
    rcases h with h | h
    · rw [h]; exact List.mem_cons_self
    · have := ih (fun v hv => hc v (List.mem_cons_of_mem _ hv)) k (i + 1) v h
      rw [ha]
      exact List.mem_cons_of_mem _ this
theorem zw_L0 (av : List Value) {n : Nat} (hc : ∀ v ∈ av, v.category = 1) (hn : (lg_sl av).length ≤ n) : zw_L ((lg_sl av ++ List.replicate (n - (lg_sl av).length) Slot.unset).toArray) n (zw_lv0 av n) := by
  have h := lv_entry av (n := n) hn
  refine ⟨h.1, h.2.1, fun i v hi => ?_⟩
  unfold zw_lv0 at hi
  have hil : i < av.length := by
    rcases Nat.lt_or_ge i av.length with q | q
    · exact q
    · rw [List.getElem?_append_right (by simpa using q)] at hi
      rw [List.getElem?_replicate] at hi
      split at hi <;> simp at hi
  rw [List.getElem?_append_left (by simpa using hil), List.getElem?_map] at hi
  have hv : av[i]? = some v := by
    cases hx : av[i]? with
    | none => rw [hx] at hi; cases hi
    | some x => rw [hx] at hi; cases hi; rfl
  have hm : v ∈ av := List.mem_of_getElem? hv
  refine ⟨hc v hm, h.2.2 (i, v) (zw_args av hc i 0 v ?_)⟩
  rw [List.mem_map]
  exact ⟨(v, i), List.mem_zipIdx_iff_getElem?.mpr (by simpa using hv), rfl⟩
/-- the three lambdas' shapes -/
def zw_s0 : Lambda.Shape := { iface := "CartelWatch$Measure", name := "of", sam := { parameters := [.object "java/lang/Object"], returnType := some .int }, captured := [.int], kind := 6, implClass := "CartelWatch", implName := "lambda$turnoverOf$0", implDesc := { parameters := [.int, .object "CartelWatch$Tender"], returnType := some .int }, implItf := false, inst := { parameters := [.object "CartelWatch$Tender"], returnType := some .int } }
def zw_s1 : Lambda.Shape := { iface := "CartelWatch$Measure", name := "of", sam := { parameters := [.object "java/lang/Object"], returnType := some .int }, captured := [.int], kind := 6, implClass := "CartelWatch", implName := "lambda$won$1", implDesc := { parameters := [.int, .object "CartelWatch$Tender"], returnType := some .int }, implItf := false, inst := { parameters := [.object "CartelWatch$Tender"], returnType := some .int } }
def zw_s2 : Lambda.Shape := { iface := "CartelWatch$Measure", name := "of", sam := { parameters := [.object "java/lang/Object"], returnType := some .int }, captured := [.int, .int], kind := 6, implClass := "CartelWatch", implName := "lambda$file$2", implDesc := { parameters := [.int, .int, .object "CartelWatch$Inquiry"], returnType := some .int }, implItf := false, inst := { parameters := [.object "CartelWatch$Inquiry"], returnType := some .int } }
def zw_sites : List (MethodName × Nat × Nat × Lambda.Shape) := [(⟨"CartelWatch", "turnoverOf", "(I)I"⟩, 5, 130, zw_s0), (⟨"CartelWatch", "won", "(I)I"⟩, 10, 139, zw_s1), (⟨"CartelWatch", "file", "(II)I"⟩, 12, 173, zw_s2)]
/-- a lambda's site is linked: it makes objects of the class c -/
def zw_lam (x : MethodName) (pc index : Nat) (σ : Lambda.Shape) (c : ClassId) (U : State) : Prop :=
  ∃ (m : MethodId) (k : Class) (cf : ClassFile) (i0 p0 : Nat), U.methodNamed? x = some m ∧ U.vm.classes[m.cls]? = some k ∧ k.cf = some cf ∧ Lambda.shapeOf? cf index = some σ ∧
    (k.callSites.find? fun y => y.1 == m.idx && y.2.1 == pc) = some (i0, p0, .makes c) ∧ Lambda.isMade { classPath := fun _ => none } U.vm m.cls σ c = true ∧ U.lambdaCallable σ c = true
theorem zw_lam.warm {x : MethodName} {pc index : Nat} {σ : Lambda.Shape} {c : ClassId} {s U : State} (hW : s.WarmedH U.vm) (h : zw_lam x pc index σ c s) : zw_lam x pc index σ c U := by
  obtain ⟨m, k, cf, i0, p0, h1, h2, h3, h4, h5, h6, h7⟩ := h
  have hA := hW.alike
  obtain ⟨k', hk', he⟩ := hA.2.2 _ _ h2
  refine ⟨m, k', cf, i0, p0, ?_, hk', by rw [he]; exact h3, h4, by rw [he]; exact h5, Lambda.isMade_warmer hW h6, ?_⟩
  · have := State.methodNamed?_setVm (s := s) hA x
    rw [h1] at this
    exact this
  · simp only [State.lambdaCallable, hA.findClass, hA.assignable, hA.superclasses, hA.declaredIn] at h7 ⊢
    exact h7
theorem zw_lam.of {x : MethodName} {pc index : Nat} {σ : Lambda.Shape} {s : State} {args : Array Value} (hc : σ.captured ≠ []) (h : (Cond.lambdaSite x pc index σ).before args s = true) : ∃ c, zw_lam x pc index σ c s := by
  obtain ⟨c, one, hat⟩ := Cond.lambdaSite_spec h
  obtain ⟨m, k, cf, i0, p0, l, h1, h2, h3, h4, -, h5, h6, h7, h8⟩ := State.lambdaAt?_spec hat
  rcases h8 with ⟨a, cell, -, -, hz, -⟩ | ⟨rfl, -, -⟩
  · exact absurd hz hc
  · exact ⟨c, m, k, cf, i0, p0, h1, h2, h3, h4, h5, h6, h7⟩
/-- the interface's method -/
abbrev zw_yM : MethodName := ⟨"CartelWatch$Measure", "of", "(Ljava/lang/Object;)I"⟩
def zw_If (U : State) : Prop := (Cond.declares zw_yM).before #[] U = true ∧ (Cond.interfaceMethod zw_yM.cls zw_yM.cls zw_yM.name zw_yM.desc).before #[] U = true
theorem zw_If.moved {u U : State} (hvm : u.vm.Alike U.vm) (h : zw_If u) : zw_If U := by
  obtain ⟨h1, h2⟩ := h
  obtain ⟨r, meth, hn, -⟩ := Cond.declares_spec h1
  have tr : ∀ {c : Cond}, c.onTables = true → c.before #[] (u.setVm U.vm) = true → c.before #[] U = true := by
    intro c hc h
    have e := Cond.onTables_vm (A := #[]) (A' := #[]) (U := u) (U' := U) U.vm c hc
    have hU : U.setVm U.vm = U := rfl
    rw [hU] at e
    rw [← e]
    exact h
  exact ⟨tr rfl (by rw [Cond.declares_setVm hvm]; exact h1), tr rfl (by rw [Cond.interfaceMethod_setVm hvm (r := r) hn ⟨by decide, by decide⟩]; exact h2)⟩
/-- the words of the tables that the rows below ask for beside lw_all -/
def zw_nw : Cond → Bool
  | .fieldLinkNest .. => true
  | .methodLinkNest .. => true
  | .castable .. => true
  | .declares .. => true
  | _ => false
def zw_ncs : List (String × String) := [("java/lang/IllegalArgumentException", "java/lang/IndexOutOfBoundsException"), ("java/lang/IllegalStateException", "java/lang/IndexOutOfBoundsException"), ("java/lang/IllegalStateException", "java/lang/IllegalArgumentException"), ("java/lang/IllegalArgumentException", "java/lang/IllegalStateException")]
def zw_txt : List (Nat × String) := [(45, "out of range"), (58, "the same bidder"), (67, "no such thing"), (72, "not now"), (125, "the winner"), (187, "none of the pair")]
abbrev zw_yL : MethodName := ⟨"java/util/List", "size", "()I"⟩
/-- what holds of the machine at every method's start -/
def zw_T (w : zw_W) (U : State) : Prop :=
  va_K (zw_D w) zw_cl (zw_ty w) U ∧
  (va_Z "java/util/ArrayList" "DEFAULTCAPACITY_EMPTY_ELEMENTDATA" "[Ljava/lang/Object;" (.ref (zw_k w 5)) (zw_A w) U U.heap ∧
   va_T (.object "java/lang/Object") (zw_k w 5) 0 (fun _ => .null) (zw_A w) U U.heap) ∧
  (vx_Zq Bundle.tN "UNASSIGNED_STACK" Bundle.steD (zw_A w) U U.heap ∧ vx_Zq Bundle.tN "SUPPRESSED_SENTINEL" Bundle.listD (zw_A w) U U.heap) ∧
  va_Mi "[Ljava/lang/Object;" (zw_k w 6) U ∧
  (∀ (i : Nat) (q : Nat × String), zw_txt[i]? = some q → vk_R "CartelWatch" q.1 q.2 (zw_k w (7 + i)) U) ∧
  (∀ q ∈ lw_tbl, zw_nw q = true → va_Nw q U) ∧
  (∀ q ∈ zw_ncs, va_Nc q.1 q.2 U) ∧
  (va_AO "CartelWatch$Bid" U ∧ va_AO "java/lang/Object" U ∧ zw_If U ∧ ∀ (i : Nat) (q : MethodName × Nat × Nat × Lambda.Shape), zw_sites[i]? = some q → zw_lam q.1 q.2.1 q.2.2.1 q.2.2.2 (zw_k w (20 + i)) U) ∧
  (va_Fw RJ2 ⟨"java/util/List", "size", "()I"⟩ yJ2_size U ∧ va_Fw RJ2 ⟨"java/util/List", "get", "(I)Ljava/lang/Object;"⟩ yJ2_get U ∧ va_Fw RJ2 ⟨"java/util/List", "add", "(Ljava/lang/Object;)Z"⟩ yJ2_add U ∧ va_Fw RJ2 ⟨"java/util/List", "contains", "(Ljava/lang/Object;)Z"⟩ yJ2_contains U) ∧
  zw_B w ≤ U.heap.size
theorem zw_nw_warm {s U : State} (hW : s.WarmedH U.vm) {q : Cond} (hq : zw_nw q = true) (h : va_Nw q s) : va_Nw q U := by
  cases q <;> first | exact va_Nw.warmF hW h | exact va_Nw.warmM hW h | exact va_Nw.warmC hW h | exact va_Nw.warmD hW h | exact absurd hq (by decide) | (simp [zw_nw] at hq)
theorem zw_T.step {w : zw_W} {s U : State} {H : Heap} {locs : List Loc} (h : zw_T w s) (hS : va_S (zw_A w) s.heap H locs) (hU : U.heap = H) (hW : s.WarmedH U.vm) : zw_T w U := by
  obtain ⟨h1, ⟨h2, h3⟩, ⟨h4, h5⟩, h6, h7, h8, h9, ⟨h10, h11, h17, h18⟩, ⟨h12, h13, h14, h15⟩, h16⟩ := h
  subst hU
  have hA := hW.alike
  have hk := hS.2.1
  refine ⟨h1.moved hA, ⟨(va_Z.moved hA h2).kept hk, (va_T.moved hA h3).kept hk⟩, ⟨(vx_Zq.moved hA h4).kept hk, (vx_Zq.moved hA h5).kept hk⟩, va_Mi.moved hA h6, fun i q hq => vk_R.warm hW (h7 i q hq), fun q hq hn => zw_nw_warm hW hn (h8 q hq hn), fun q hq => va_Nc.moved hA (h9 q hq), ⟨va_AO.moved hA h10, va_AO.moved hA h11, zw_If.moved hA h17, fun i q hq => zw_lam.warm hW (h18 i q hq)⟩, ⟨va_Fw.moved ⟨by decide, by decide⟩ hA h12, va_Fw.moved ⟨by decide, by decide⟩ hA h13, va_Fw.moved ⟨by decide, by decide⟩ hA h14, va_Fw.moved ⟨by decide, by decide⟩ hA h15⟩, Nat.le_trans h16 hS.1⟩
theorem zw_T.calling {w : zw_W} {U : State} (g : JFrame) (mk : MethodId) (a : Array Value) (h : zw_T w U) : zw_T w (U.calling g mk a) := by
  have hA : U.vm.Alike (U.calling g mk a).vm := Vm.Alike.refl U.vm
  have hW : U.WarmedH (U.calling g mk a).vm := State.WarmedH.refl U
  exact h.step (locs := []) va_S.rf rfl hW
/-- a frame: everything that stays while a method runs -/
abbrev zw_X : Type := Program × Launch × Env × Room × State × MethodId × Array Value × List Frame × Method × Code × (State → Prop) × zw_W
def zw_Xl (X : zw_X) : Launch := X.2.1
def zw_Xw (X : zw_X) : zw_W := X.2.2.2.2.2.2.2.2.2.2.2
def zw_Z (X : zw_X) (M : zw_M) (k n : Nat) (pc : Nat) (lv : List (Option Value)) (st : List Value) : Prop :=
  ∀ (H : Heap) (locs : List Loc) (ls : Array Slot), zw_H X.2.2.2.2.2.2.2.2.2.2.2 M H → va_S (zw_A X.2.2.2.2.2.2.2.2.2.2.2) X.2.2.2.2.1.heap H locs → zw_L ls X.2.2.2.2.2.2.2.2.2.1.maxLocals lv →
    W X.1 X.2.1 X.2.2.1 X.2.2.2.1 X.2.2.2.2.1 X.2.2.2.2.2.1 X.2.2.2.2.2.2.1 X.2.2.2.2.2.2.2.1 X.2.2.2.2.2.2.2.2.1 X.2.2.2.2.2.2.2.2.2.1 H locs k n X.2.2.2.2.2.2.2.2.2.2.1 (F0 X.2.2.2.2.2.1 pc ls st)
/-- an exception of class E is under way at pc -/
def zw_ZX (X : zw_X) (M : zw_M) (k n : Nat) (pc : Nat) (lv : List (Option Value)) (E : String) : Prop :=
  ∀ (H : Heap) (locs : List Loc) (ls : Array Slot) (q : Addr) (ce : Cell) (rest : List Value), zw_H X.2.2.2.2.2.2.2.2.2.2.2 M H → va_S (zw_A X.2.2.2.2.2.2.2.2.2.2.2) X.2.2.2.2.1.heap H locs → zw_L ls X.2.2.2.2.2.2.2.2.2.1.maxLocals lv →
    H[q]? = some ce → ce.vm = .none → X.2.2.2.2.1.vm.findClass E = some ce.cls →
    vx_W X.1 X.2.1 X.2.2.1 X.2.2.2.1 X.2.2.2.2.1 X.2.2.2.2.2.1 X.2.2.2.2.2.2.1 X.2.2.2.2.2.2.2.1 X.2.2.2.2.2.2.2.2.1 X.2.2.2.2.2.2.2.2.2.1 H locs k n X.2.2.2.2.2.2.2.2.2.2.1 (F0 X.2.2.2.2.2.1 pc ls rest) q
/-- what is known of a frame: the machine, its code, its locals' number, its class, its room -/
def zw_K (X : zw_X) (cc : ByteArray) (nL : Nat) (own : String) (rm : Room) : Prop :=
  X.1.tables.exec = Jvm.exec ∧ X.2.2.2.2.2.2.2.2.2.1.code = cc ∧ X.2.2.2.2.2.2.2.2.2.1.maxLocals = nL ∧ X.2.2.2.2.1.vm.findClass own = some X.2.2.2.2.2.1.cls ∧ (∀ q ∈ lw_all, q.before X.2.2.2.2.2.2.1 X.2.2.2.2.1 = true) ∧
  X.2.2.2.1 = rm ∧ X.2.2.2.2.2.2.2.2.1.locks = false ∧ zw_T X.2.2.2.2.2.2.2.2.2.2.2 X.2.2.2.2.1 ∧ X.2.1.stackTraces = false
def zw_Q (w : zw_W) (Po : Option Value → zw_M → Prop) : Array Value → State → Outcome → State → Prop := fun _ st o t => ∃ (v : Option Value) (M : zw_M), o = .returned v ∧ Po v M ∧ zw_H w M t.heap ∧ va_F (zw_A w) st t
def zw_QX (w : zw_W) (Px : String → zw_M → Prop) : String → State → State → Prop := fun E st t => ∃ M : zw_M, Px E M ∧ zw_H w M t.heap ∧ va_F (zw_A w) st t
def zw_E (X : zw_X) (ret : Option FieldType) (Po : Option Value → zw_M → Prop) (Px : String → zw_M → Prop) (mc ms : Nat) : Prop :=
  X.2.2.2.2.2.2.2.2.1.sig.returnType = ret ∧ X.2.2.2.2.2.2.2.2.2.2.1 = vx_MQ X.2.2.2.2.2.2.2.1 (zw_Q X.2.2.2.2.2.2.2.2.2.2.2 Po) (zw_QX X.2.2.2.2.2.2.2.2.2.2.2 Px) X.2.2.2.2.2.2.1 X.2.2.2.2.1 mc ms (zw_A X.2.2.2.2.2.2.2.2.2.2.2)
/-- a contract: from a heap that M describes, with these arguments, it returns as Po says, or throws as Px says -/
def zw_C (w : zw_W) (l : Launch) (y : MethodName) (cc : ByteArray) (nL : Nat) (ret : Option FieldType) (rm : Room) (av : List Value) (M : zw_M) (Po : Option Value → zw_M → Prop) (Px : String → zw_M → Prop) : Prop :=
  vx_Met l y (ws_ y cc nL ret) rm (va_Pc av (fun U => zw_T w U ∧ zw_H w M U.heap)) (zw_Q w Po) (zw_QX w Px) rm.cells rm.slots (zw_A w)
def zw_pi (Po : Int32 → zw_M → Prop) : Option Value → zw_M → Prop := fun v M => ∃ r : Int32, v = some (.int r) ∧ Po r M
def zw_pv (Po : zw_M → Prop) : Option Value → zw_M → Prop := fun v M => v = none ∧ Po M
def zw_pr (Po : Option Nat → zw_M → Prop) : Option Value → zw_M → Prop := fun v M => ∃ r : Option Nat, v = some (va_rf r) ∧ Po r M
def zw_no : String → zw_M → Prop := fun _ _ => False
theorem zw_enter {w : zw_W} {l : Launch} {y : MethodName} {cc : ByteArray} {nL : Nat} {ret : Option FieldType} {rm : Room} {av : List Value} {M : zw_M} {Po : Option Value → zw_M → Prop} {Px : String → zw_M → Prop} (own : String) (hown : y.cls = own) (hy : plainName y.cls = true) (hl : l.stackTraces = false) (hc : ∀ v ∈ av, v.category = 1) (hn : (lg_sl av).length ≤ nL)
    (body : ∀ X : zw_X, zw_Xl X = l → zw_Xw X = w → zw_K X cc nL own rm → zw_E X ret Po Px rm.cells rm.slots → (∀ x ∈ X.2.2.2.2.2.2.2.2.2.1.exceptionTable.toList, False) → X.2.2.2.2.2.2.2.2.1.name = y.name → zw_Z X M 0 0 0 (zw_lv0 av nL) []) : zw_C w l y cc nL ret rm av M Po Px := by
  refine vx_ofW (cc := cc) (maxL := nL) (ret := ret) hy rfl ?_
  intro p e s m args below meth c s₁ B hml htab hv
  obtain ⟨rfl, hT, hH⟩ := hv
  have hts := atoms_spec (ws := ws_ y cc nL ret) B.pre
  have hts : ∀ w ∈ lw_all, w.before _ s = true := fun w h => hts w (List.mem_cons_of_mem _ h)
  have hfc : s.vm.findClass own = some m.cls := by rw [← hown]; exact findClass_of_methodNamed B.named
  have hb := body (p, l, e, rm, s, m, av.toArray, below, meth, c, vx_MQ below (zw_Q w Po) (zw_QX w Px) av.toArray s rm.cells rm.slots (zw_A w), w) rfl rfl ⟨B.exec, B.bytes, hml, hfc, hts, rfl, B.notSynchronized, hT, hl⟩ ⟨B.returns, rfl⟩ htab (name_of_methodNamed B.named B.method).1
  rw [lg_entry_eq]
  refine hb s.heap [] _ hH va_S.rf ?_
  show zw_L _ c.maxLocals _
  rw [hml]
  exact zw_L0 av hc hn
section ZW
variable {X : zw_X} {cc : ByteArray} {nL : Nat} {own : String} {rm : Room} {M : zw_M} {c n pc pc' : Nat} {lv lv' : List (Option Value)} {st : List Value}
theorem zw_weak (hs : ∀ (i : Nat) (v : Value), lv'[i]? = some (some v) → lv[i]? = some (some v)) (k : zw_Z X M c n pc lv' st) : zw_Z X M c n pc lv st := fun H locs ls hH hS hl => k H locs ls hH hS (hl.weak hs)
theorem zw_wide {c' n' : Nat} (hc : c ≤ c') (hn : n ≤ n') (k : zw_Z X M c' n' pc lv st) : zw_Z X M c n pc lv st := fun H locs ls hH hS hl => W.widen hc hn (k H locs ls hH hS hl)
theorem zw_mono {M' : zw_M} (hs : ∀ a e, M' a = some e → M a = some e) (hn : ∀ (l n : Nat) (el : Nat → Nat) (a : Nat), M' l = some (.inr (n, el)) → M a = none → M' a = none) (k : zw_Z X M' c n pc lv st) : zw_Z X M c n pc lv st := fun H locs ls hH hS hl => k H locs ls (hH.sub hs hn) hS hl
theorem zw_stk {st' : List Value} (e : st = st') (k : zw_Z X M c n pc lv st') : zw_Z X M c n pc lv st := e ▸ k

theorem zw_iconst (K : zw_K X cc nL own rm) {i : Int} {v : Int32} (hd : decode cc pc = .ok (.iconst i, 1)) (hv : Int32.ofInt i = v) (hp : pc + 1 = pc') (k : zw_Z X M c n pc' lv (.int v :: st)) : zw_Z X M c n pc lv st := by
  subst hp
  obtain ⟨hx, hb, -⟩ := K
  intro H locs ls hH hS hl
  exact lv_iconst hx hb hd hv (k H locs ls hH hS hl)
theorem zw_bipush (K : zw_K X cc nL own rm) {i : Int} {v : Int32} (hd : decode cc pc = .ok (.bipush i, 2)) (hv : (Int8.ofInt i).toInt32 = v) (hp : pc + 2 = pc') (k : zw_Z X M c n pc' lv (.int v :: st)) : zw_Z X M c n pc lv st := by
  subst hp
  obtain ⟨hx, hb, -⟩ := K
  intro H locs ls hH hS hl
  exact lv_bipush hx hb hd hv (k H locs ls hH hS hl)
theorem zw_sipush (K : zw_K X cc nL own rm) {i : Int} {v : Int32} (hd : decode cc pc = .ok (.sipush i, 3)) (hv : (Int16.ofInt i).toInt32 = v) (hp : pc + 3 = pc') (k : zw_Z X M c n pc' lv (.int v :: st)) : zw_Z X M c n pc lv st := by
  subst hp
  obtain ⟨hx, hb, -⟩ := K
  intro H locs ls hH hS hl
  exact lv_sipush hx hb hd hv (k H locs ls hH hS hl)
theorem zw_lconst (K : zw_K X cc nL own rm) {i : Fin 2} {v : Int64} (hd : decode cc pc = .ok (.lconst i, 1)) (hv : Int64.ofNat (i : Nat) = v) (hp : pc + 1 = pc') (k : zw_Z X M c n pc' lv (.long v :: st)) : zw_Z X M c n pc lv st := by
  subst hp
  obtain ⟨hx, hb, -⟩ := K
  intro H locs ls hH hS hl
  exact lv_lconst hx hb hd hv (k H locs ls hH hS hl)
theorem zw_null (K : zw_K X cc nL own rm)  (hd : decode cc pc = .ok (.aconst_null, 1))  (hp : pc + 1 = pc') (k : zw_Z X M c n pc' lv (.null :: st)) : zw_Z X M c n pc lv st := by
  subst hp
  obtain ⟨hx, hb, -⟩ := K
  intro H locs ls hH hS hl
  exact lv_null hx hb hd  (k H locs ls hH hS hl)
theorem zw_iadd (K : zw_K X cc nL own rm) {x y : Int32} (hd : decode cc pc = .ok (.iadd, 1))  (hp : pc + 1 = pc') (k : zw_Z X M c n pc' lv (.int (x + y) :: st)) : zw_Z X M c n pc lv (.int y :: .int x :: st) := by
  subst hp
  obtain ⟨hx, hb, -⟩ := K
  intro H locs ls hH hS hl
  exact lv_iadd hx hb hd  (k H locs ls hH hS hl)
theorem zw_isub (K : zw_K X cc nL own rm) {x y : Int32} (hd : decode cc pc = .ok (.isub, 1))  (hp : pc + 1 = pc') (k : zw_Z X M c n pc' lv (.int (x - y) :: st)) : zw_Z X M c n pc lv (.int y :: .int x :: st) := by
  subst hp
  obtain ⟨hx, hb, -⟩ := K
  intro H locs ls hH hS hl
  exact lv_isub hx hb hd  (k H locs ls hH hS hl)
theorem zw_imul (K : zw_K X cc nL own rm) {x y : Int32} (hd : decode cc pc = .ok (.imul, 1))  (hp : pc + 1 = pc') (k : zw_Z X M c n pc' lv (.int (x * y) :: st)) : zw_Z X M c n pc lv (.int y :: .int x :: st) := by
  subst hp
  obtain ⟨hx, hb, -⟩ := K
  intro H locs ls hH hS hl
  exact lv_imul hx hb hd  (k H locs ls hH hS hl)
theorem zw_iand (K : zw_K X cc nL own rm) {x y : Int32} (hd : decode cc pc = .ok (.iand, 1))  (hp : pc + 1 = pc') (k : zw_Z X M c n pc' lv (.int (x &&& y) :: st)) : zw_Z X M c n pc lv (.int y :: .int x :: st) := by
  subst hp
  obtain ⟨hx, hb, -⟩ := K
  intro H locs ls hH hS hl
  exact lv_iand hx hb hd  (k H locs ls hH hS hl)
theorem zw_ior (K : zw_K X cc nL own rm) {x y : Int32} (hd : decode cc pc = .ok (.ior, 1))  (hp : pc + 1 = pc') (k : zw_Z X M c n pc' lv (.int (x ||| y) :: st)) : zw_Z X M c n pc lv (.int y :: .int x :: st) := by
  subst hp
  obtain ⟨hx, hb, -⟩ := K
  intro H locs ls hH hS hl
  exact lv_ior hx hb hd  (k H locs ls hH hS hl)
theorem zw_idiv (K : zw_K X cc nL own rm) {x y : Int32} (hd : decode cc pc = .ok (.idiv, 1)) (hne : ¬ y = 0) (hp : pc + 1 = pc') (k : zw_Z X M c n pc' lv (.int (x / y) :: st)) : zw_Z X M c n pc lv (.int y :: .int x :: st) := by
  subst hp
  obtain ⟨hx, hb, -⟩ := K
  intro H locs ls hH hS hl
  exact lv_idiv hx hb hd hne (k H locs ls hH hS hl)
theorem zw_ishl (K : zw_K X cc nL own rm) {x y : Int32} (hd : decode cc pc = .ok (.ishl, 1))  (hp : pc + 1 = pc') (k : zw_Z X M c n pc' lv (.int (x <<< (y &&& 31)) :: st)) : zw_Z X M c n pc lv (.int y :: .int x :: st) := by
  subst hp
  obtain ⟨hx, hb, -⟩ := K
  intro H locs ls hH hS hl
  exact lv_ishl hx hb hd  (k H locs ls hH hS hl)
theorem zw_ishr (K : zw_K X cc nL own rm) {x y : Int32} (hd : decode cc pc = .ok (.ishr, 1))  (hp : pc + 1 = pc') (k : zw_Z X M c n pc' lv (.int (x >>> (y &&& 31)) :: st)) : zw_Z X M c n pc lv (.int y :: .int x :: st) := by
  subst hp
  obtain ⟨hx, hb, -⟩ := K
  intro H locs ls hH hS hl
  exact lv_ishr hx hb hd  (k H locs ls hH hS hl)
theorem zw_i2l (K : zw_K X cc nL own rm) {x : Int32} (hd : decode cc pc = .ok (.i2l, 1))  (hp : pc + 1 = pc') (k : zw_Z X M c n pc' lv (.long x.toInt64 :: st)) : zw_Z X M c n pc lv (.int x :: st) := by
  subst hp
  obtain ⟨hx, hb, -⟩ := K
  intro H locs ls hH hS hl
  exact lv_i2l hx hb hd rfl (k H locs ls hH hS hl)
theorem zw_lcmp (K : zw_K X cc nL own rm) {x y : Int64} (hd : decode cc pc = .ok (.lcmp, 1))  (hp : pc + 1 = pc') (k : zw_Z X M c n pc' lv (.int (lg_cmp x y) :: st)) : zw_Z X M c n pc lv (.long y :: .long x :: st) := by
  subst hp
  obtain ⟨hx, hb, -⟩ := K
  intro H locs ls hH hS hl
  exact W.lcmp hx hb hd  (k H locs ls hH hS hl)
theorem zw_dup (K : zw_K X cc nL own rm) {a : Value} (hd : decode cc pc = .ok (.dup, 1)) (ha : a.category = 1) (hp : pc + 1 = pc') (k : zw_Z X M c n pc' lv (a :: a :: st)) : zw_Z X M c n pc lv (a :: st) := by
  subst hp
  obtain ⟨hx, hb, -⟩ := K
  intro H locs ls hH hS hl
  exact lv_dup hx hb hd ha (k H locs ls hH hS hl)
theorem zw_pop (K : zw_K X cc nL own rm) {a : Value} (hd : decode cc pc = .ok (.pop, 1)) (ha : a.category = 1) (hp : pc + 1 = pc') (k : zw_Z X M c n pc' lv st) : zw_Z X M c n pc lv (a :: st) := by
  subst hp
  obtain ⟨hx, hb, -⟩ := K
  intro H locs ls hH hS hl
  exact lv_pop hx hb hd ha (k H locs ls hH hS hl)
theorem zw_dup_x1 (K : zw_K X cc nL own rm) {a b : Value} (hd : decode cc pc = .ok (.dup_x1, 1)) (ha : a.category = 1) (hb2 : b.category = 1) (hp : pc + 1 = pc') (k : zw_Z X M c n pc' lv (a :: b :: a :: st)) : zw_Z X M c n pc lv (a :: b :: st) := by
  subst hp
  obtain ⟨hx, hb, -⟩ := K
  intro H locs ls hH hS hl
  exact lv_dup_x1 hx hb hd ha hb2 (k H locs ls hH hS hl)
theorem zw_dup2 (K : zw_K X cc nL own rm) {a b : Value} (hd : decode cc pc = .ok (.dup2, 1)) (ha : a.category = 1) (hb2 : b.category = 1) (hp : pc + 1 = pc') (k : zw_Z X M c n pc' lv (a :: b :: a :: b :: st)) : zw_Z X M c n pc lv (a :: b :: st) := by
  subst hp
  obtain ⟨hx, hb, -⟩ := K
  intro H locs ls hH hS hl
  exact lv_dup2_11 hx hb hd ha hb2 (k H locs ls hH hS hl)
theorem zw_iload_n (K : zw_K X cc nL own rm) {i : Fin 4} {x : Int32} (hd : decode cc pc = .ok (.iload_n i, 1)) (hv : lv[(i : Nat)]? = some (some (.int x))) (hp : pc + 1 = pc') (k : zw_Z X M c n pc' lv (.int x :: st)) : zw_Z X M c n pc lv st := by
  subst hp
  obtain ⟨hx, hb, -⟩ := K
  intro H locs ls hH hS hl
  exact lv_iload_n hx hb hd rfl (hl.at hv) (k H locs ls hH hS hl)
theorem zw_iload (K : zw_K X cc nL own rm) {i : Nat} {x : Int32} (hd : decode cc pc = .ok (.iload i, 2)) (hv : lv[i]? = some (some (.int x))) (hp : pc + 2 = pc') (k : zw_Z X M c n pc' lv (.int x :: st)) : zw_Z X M c n pc lv st := by
  subst hp
  obtain ⟨hx, hb, -⟩ := K
  intro H locs ls hH hS hl
  exact lv_iload hx hb hd (hl.at hv) (k H locs ls hH hS hl)
theorem zw_isRef {v : Value} (h : v.isRef = true) : v = .null ∨ ∃ a, v = .ref a := by
  cases v <;> simp_all [Value.isRef]
theorem zw_aload_n (K : zw_K X cc nL own rm) {i : Fin 4} {v : Value} (hd : decode cc pc = .ok (.aload_n i, 1)) (hv : lv[(i : Nat)]? = some (some v)) (hr : v.isRef = true) (hp : pc + 1 = pc') (k : zw_Z X M c n pc' lv (v :: st)) : zw_Z X M c n pc lv st := by
  subst hp
  obtain ⟨hx, hb, -⟩ := K
  intro H locs ls hH hS hl
  rcases zw_isRef hr with rfl | ⟨a, rfl⟩
  · exact lv_aload_nN hx hb hd rfl (hl.at hv) (k H locs ls hH hS hl)
  · exact lv_aload_n hx hb hd rfl (hl.at hv) (k H locs ls hH hS hl)
theorem zw_aload (K : zw_K X cc nL own rm) {i : Nat} {v : Value} (hd : decode cc pc = .ok (.aload i, 2)) (hv : lv[i]? = some (some v)) (hr : v.isRef = true) (hp : pc + 2 = pc') (k : zw_Z X M c n pc' lv (v :: st)) : zw_Z X M c n pc lv st := by
  subst hp
  obtain ⟨hx, hb, -⟩ := K
  intro H locs ls hH hS hl
  rcases zw_isRef hr with rfl | ⟨a, rfl⟩
  · exact lv_aloadN hx hb hd (hl.at hv) (k H locs ls hH hS hl)
  · exact lv_aload hx hb hd (hl.at hv) (k H locs ls hH hS hl)
theorem zw_istore_n (K : zw_K X cc nL own rm) {i : Fin 4} {x : Int32} (hd : decode cc pc = .ok (.istore_n i, 1)) (hi : (i : Nat) < nL) (hs : lv.set (i : Nat) (some (.int x)) = lv') (hp : pc + 1 = pc') (k : zw_Z X M c n pc' lv' st) : zw_Z X M c n pc lv (.int x :: st) := by
  subst hp; subst hs
  obtain ⟨hx, hb, hml, -⟩ := K
  intro H locs ls hH hS hl
  exact lv_istore_n hx hb hd rfl hl.has (by rw [hml]; exact hi) rfl (fun ls' h' => k H locs ls' hH hS (hl.store rfl h'))
theorem zw_istore (K : zw_K X cc nL own rm) {i : Nat} {x : Int32} (hd : decode cc pc = .ok (.istore i, 2)) (hi : i < nL) (hs : lv.set i (some (.int x)) = lv') (hp : pc + 2 = pc') (k : zw_Z X M c n pc' lv' st) : zw_Z X M c n pc lv (.int x :: st) := by
  subst hp; subst hs
  obtain ⟨hx, hb, hml, -⟩ := K
  intro H locs ls hH hS hl
  exact lv_istore hx hb hd hl.has (by rw [hml]; exact hi) rfl (fun ls' h' => k H locs ls' hH hS (hl.store rfl h'))
theorem zw_astore_n (K : zw_K X cc nL own rm) {i : Fin 4} {v : Value} (hd : decode cc pc = .ok (.astore_n i, 1)) (hr : v.isRef = true) (hi : (i : Nat) < nL) (hs : lv.set (i : Nat) (some v) = lv') (hp : pc + 1 = pc') (k : zw_Z X M c n pc' lv' st) : zw_Z X M c n pc lv (v :: st) := by
  subst hp; subst hs
  obtain ⟨hx, hb, hml, -⟩ := K
  intro H locs ls hH hS hl
  rcases zw_isRef hr with rfl | ⟨a, rfl⟩
  · exact lv_astore_nN hx hb hd rfl hl.has (by rw [hml]; exact hi) rfl (fun ls' h' => k H locs ls' hH hS (hl.store rfl h'))
  · exact lv_astore_n hx hb hd rfl hl.has (by rw [hml]; exact hi) rfl (fun ls' h' => k H locs ls' hH hS (hl.store rfl h'))
theorem zw_astore (K : zw_K X cc nL own rm) {i : Nat} {v : Value} (hd : decode cc pc = .ok (.astore i, 2)) (hr : v.isRef = true) (hi : i < nL) (hs : lv.set i (some v) = lv') (hp : pc + 2 = pc') (k : zw_Z X M c n pc' lv' st) : zw_Z X M c n pc lv (v :: st) := by
  subst hp; subst hs
  obtain ⟨hx, hb, hml, -⟩ := K
  intro H locs ls hH hS hl
  rcases zw_isRef hr with rfl | ⟨a, rfl⟩
  · exact lv_astoreN hx hb hd hl.has (by rw [hml]; exact hi) rfl (fun ls' h' => k H locs ls' hH hS (hl.store rfl h'))
  · exact lv_astore hx hb hd hl.has (by rw [hml]; exact hi) rfl (fun ls' h' => k H locs ls' hH hS (hl.store rfl h'))
theorem zw_iinc (K : zw_K X cc nL own rm) {i : Nat} {j : Int} {x : Int32} (hd : decode cc pc = .ok (.iinc i j, 3)) (hv : lv[i]? = some (some (.int x))) (hi : i < nL) (hs : lv.set i (some (.int (x + Int32.ofInt j))) = lv') (hp : pc + 3 = pc') (k : zw_Z X M c n pc' lv' st) : zw_Z X M c n pc lv st := by
  subst hp; subst hs
  obtain ⟨hx, hb, hml, -⟩ := K
  intro H locs ls hH hS hl
  obtain ⟨k0, hk0⟩ := List.getElem?_of_mem (zw_lv_mem.mpr hv)
  exact lv_iinc hx hb hd hl.has hk0 rfl (by rw [hml]; exact hi) rfl (fun ls' h' => k H locs ls' hH hS (hl.store rfl h'))
theorem zw_goto (K : zw_K X cc nL own rm) {off : Int} {tgt : Nat} (hd : decode cc pc = .ok (.goto off, 3)) (ht : (pc : Int) + off = (tgt : Int)) (k : zw_Z X M c n tgt lv st) : zw_Z X M c n pc lv st := by
  obtain ⟨hx, hb, -⟩ := K
  intro H locs ls hH hS hl
  exact lv_goto hx hb hd ht (k H locs ls hH hS hl)
theorem zw_ifnull (K : zw_K X cc nL own rm) {off : Int} {tgt : Nat} {r : Option Nat} (hd : decode cc pc = .ok (.ifnull off, 3)) (ht : (pc : Int) + off = (tgt : Int)) (hp : pc + 3 = pc') (kt : r = none → zw_Z X M c n tgt lv st) (kf : ∀ a, r = some a → zw_Z X M c n pc' lv st) : zw_Z X M c n pc lv (va_rf r :: st) := by
  subst hp
  obtain ⟨hx, hb, -⟩ := K
  intro H locs ls hH hS hl
  cases r with
  | none => exact lv_ifnullN hx hb hd ht (kt rfl H locs ls hH hS hl)
  | some a => exact lv_ifnull hx hb hd (kf a rfl H locs ls hH hS hl)
theorem zw_ifnonnull (K : zw_K X cc nL own rm) {off : Int} {tgt : Nat} {r : Option Nat} (hd : decode cc pc = .ok (.ifnonnull off, 3)) (ht : (pc : Int) + off = (tgt : Int)) (hp : pc + 3 = pc') (kt : ∀ a, r = some a → zw_Z X M c n tgt lv st) (kf : r = none → zw_Z X M c n pc' lv st) : zw_Z X M c n pc lv (va_rf r :: st) := by
  subst hp
  obtain ⟨hx, hb, -⟩ := K
  intro H locs ls hH hS hl
  cases r with
  | none => exact lv_ifnonnullN hx hb hd (kf rfl H locs ls hH hS hl)
  | some a => exact lv_ifnonnull hx hb hd ht (kt a rfl H locs ls hH hS hl)
theorem zw_acmp_eq (K : zw_K X cc nL own rm) {rx ry : Option Nat} {off : Int} {tgt : Nat} (hd : decode cc pc = .ok (.if_acmp .eq off, 3)) (ht : (pc : Int) + off = (tgt : Int)) (hp : pc + 3 = pc') (kt : rx = ry → zw_Z X M c n tgt lv st) (kf : ¬ rx = ry → zw_Z X M c n pc' lv st) : zw_Z X M c n pc lv (va_rf ry :: va_rf rx :: st) := by
  subst hp
  obtain ⟨hx, hb, -⟩ := K
  intro H locs ls hH hS hl
  exact lv_acmp_eq hx hb hd ht (fun h => kt h H locs ls hH hS hl) (fun h => kf h H locs ls hH hS hl)
theorem zw_acmp_ne (K : zw_K X cc nL own rm) {rx ry : Option Nat} {off : Int} {tgt : Nat} (hd : decode cc pc = .ok (.if_acmp .ne off, 3)) (ht : (pc : Int) + off = (tgt : Int)) (hp : pc + 3 = pc') (kt : ¬ rx = ry → zw_Z X M c n tgt lv st) (kf : rx = ry → zw_Z X M c n pc' lv st) : zw_Z X M c n pc lv (va_rf ry :: va_rf rx :: st) := by
  subst hp
  obtain ⟨hx, hb, -⟩ := K
  intro H locs ls hH hS hl
  exact lv_acmp_ne hx hb hd ht (fun h => kt h H locs ls hH hS hl) (fun h => kf h H locs ls hH hS hl)
theorem zw_if_eq (K : zw_K X cc nL own rm) {x : Int32} {off : Int} {tgt : Nat} (hd : decode cc pc = .ok (.ifCond .eq off, 3)) (ht : (pc : Int) + off = (tgt : Int)) (hp : pc + 3 = pc') (kt : x = 0 → zw_Z X M c n tgt lv st) (kf : ¬ x = 0 → zw_Z X M c n pc' lv st) : zw_Z X M c n pc lv (.int x :: st) := by
  subst hp
  obtain ⟨hx, hb, -⟩ := K
  intro H locs ls hH hS hl
  exact lv_if_eq hx hb hd ht (fun h => kt h H locs ls hH hS hl) (fun h => kf h H locs ls hH hS hl)
theorem zw_icmp_eq (K : zw_K X cc nL own rm) {x y : Int32} {off : Int} {tgt : Nat} (hd : decode cc pc = .ok (.if_icmp .eq off, 3)) (ht : (pc : Int) + off = (tgt : Int)) (hp : pc + 3 = pc') (kt : x = y → zw_Z X M c n tgt lv st) (kf : ¬ x = y → zw_Z X M c n pc' lv st) : zw_Z X M c n pc lv (.int y :: .int x :: st) := by
  subst hp
  obtain ⟨hx, hb, -⟩ := K
  intro H locs ls hH hS hl
  exact lv_icmp_eq hx hb hd ht (fun h => kt h H locs ls hH hS hl) (fun h => kf h H locs ls hH hS hl)
theorem zw_if_ne (K : zw_K X cc nL own rm) {x : Int32} {off : Int} {tgt : Nat} (hd : decode cc pc = .ok (.ifCond .ne off, 3)) (ht : (pc : Int) + off = (tgt : Int)) (hp : pc + 3 = pc') (kt : ¬ x = 0 → zw_Z X M c n tgt lv st) (kf : x = 0 → zw_Z X M c n pc' lv st) : zw_Z X M c n pc lv (.int x :: st) := by
  subst hp
  obtain ⟨hx, hb, -⟩ := K
  intro H locs ls hH hS hl
  exact lv_if_ne hx hb hd ht (fun h => kt h H locs ls hH hS hl) (fun h => kf h H locs ls hH hS hl)
theorem zw_icmp_ne (K : zw_K X cc nL own rm) {x y : Int32} {off : Int} {tgt : Nat} (hd : decode cc pc = .ok (.if_icmp .ne off, 3)) (ht : (pc : Int) + off = (tgt : Int)) (hp : pc + 3 = pc') (kt : ¬ x = y → zw_Z X M c n tgt lv st) (kf : x = y → zw_Z X M c n pc' lv st) : zw_Z X M c n pc lv (.int y :: .int x :: st) := by
  subst hp
  obtain ⟨hx, hb, -⟩ := K
  intro H locs ls hH hS hl
  exact lv_icmp_ne hx hb hd ht (fun h => kt h H locs ls hH hS hl) (fun h => kf h H locs ls hH hS hl)
theorem zw_if_lt (K : zw_K X cc nL own rm) {x : Int32} {off : Int} {tgt : Nat} (hd : decode cc pc = .ok (.ifCond .lt off, 3)) (ht : (pc : Int) + off = (tgt : Int)) (hp : pc + 3 = pc') (kt : x < 0 → zw_Z X M c n tgt lv st) (kf : ¬ x < 0 → zw_Z X M c n pc' lv st) : zw_Z X M c n pc lv (.int x :: st) := by
  subst hp
  obtain ⟨hx, hb, -⟩ := K
  intro H locs ls hH hS hl
  exact lv_if_lt hx hb hd ht (fun h => kt h H locs ls hH hS hl) (fun h => kf h H locs ls hH hS hl)
theorem zw_icmp_lt (K : zw_K X cc nL own rm) {x y : Int32} {off : Int} {tgt : Nat} (hd : decode cc pc = .ok (.if_icmp .lt off, 3)) (ht : (pc : Int) + off = (tgt : Int)) (hp : pc + 3 = pc') (kt : x < y → zw_Z X M c n tgt lv st) (kf : ¬ x < y → zw_Z X M c n pc' lv st) : zw_Z X M c n pc lv (.int y :: .int x :: st) := by
  subst hp
  obtain ⟨hx, hb, -⟩ := K
  intro H locs ls hH hS hl
  exact lv_icmp_lt hx hb hd ht (fun h => kt h H locs ls hH hS hl) (fun h => kf h H locs ls hH hS hl)
theorem zw_if_ge (K : zw_K X cc nL own rm) {x : Int32} {off : Int} {tgt : Nat} (hd : decode cc pc = .ok (.ifCond .ge off, 3)) (ht : (pc : Int) + off = (tgt : Int)) (hp : pc + 3 = pc') (kt : 0 ≤ x → zw_Z X M c n tgt lv st) (kf : ¬ 0 ≤ x → zw_Z X M c n pc' lv st) : zw_Z X M c n pc lv (.int x :: st) := by
  subst hp
  obtain ⟨hx, hb, -⟩ := K
  intro H locs ls hH hS hl
  exact lv_if_ge hx hb hd ht (fun h => kt h H locs ls hH hS hl) (fun h => kf h H locs ls hH hS hl)
theorem zw_icmp_ge (K : zw_K X cc nL own rm) {x y : Int32} {off : Int} {tgt : Nat} (hd : decode cc pc = .ok (.if_icmp .ge off, 3)) (ht : (pc : Int) + off = (tgt : Int)) (hp : pc + 3 = pc') (kt : y ≤ x → zw_Z X M c n tgt lv st) (kf : ¬ y ≤ x → zw_Z X M c n pc' lv st) : zw_Z X M c n pc lv (.int y :: .int x :: st) := by
  subst hp
  obtain ⟨hx, hb, -⟩ := K
  intro H locs ls hH hS hl
  exact lv_icmp_ge hx hb hd ht (fun h => kt h H locs ls hH hS hl) (fun h => kf h H locs ls hH hS hl)
theorem zw_if_gt (K : zw_K X cc nL own rm) {x : Int32} {off : Int} {tgt : Nat} (hd : decode cc pc = .ok (.ifCond .gt off, 3)) (ht : (pc : Int) + off = (tgt : Int)) (hp : pc + 3 = pc') (kt : 0 < x → zw_Z X M c n tgt lv st) (kf : ¬ 0 < x → zw_Z X M c n pc' lv st) : zw_Z X M c n pc lv (.int x :: st) := by
  subst hp
  obtain ⟨hx, hb, -⟩ := K
  intro H locs ls hH hS hl
  exact lv_if_gt hx hb hd ht (fun h => kt h H locs ls hH hS hl) (fun h => kf h H locs ls hH hS hl)
theorem zw_icmp_gt (K : zw_K X cc nL own rm) {x y : Int32} {off : Int} {tgt : Nat} (hd : decode cc pc = .ok (.if_icmp .gt off, 3)) (ht : (pc : Int) + off = (tgt : Int)) (hp : pc + 3 = pc') (kt : y < x → zw_Z X M c n tgt lv st) (kf : ¬ y < x → zw_Z X M c n pc' lv st) : zw_Z X M c n pc lv (.int y :: .int x :: st) := by
  subst hp
  obtain ⟨hx, hb, -⟩ := K
  intro H locs ls hH hS hl
  exact lv_icmp_gt hx hb hd ht (fun h => kt h H locs ls hH hS hl) (fun h => kf h H locs ls hH hS hl)
theorem zw_if_le (K : zw_K X cc nL own rm) {x : Int32} {off : Int} {tgt : Nat} (hd : decode cc pc = .ok (.ifCond .le off, 3)) (ht : (pc : Int) + off = (tgt : Int)) (hp : pc + 3 = pc') (kt : x ≤ 0 → zw_Z X M c n tgt lv st) (kf : ¬ x ≤ 0 → zw_Z X M c n pc' lv st) : zw_Z X M c n pc lv (.int x :: st) := by
  subst hp
  obtain ⟨hx, hb, -⟩ := K
  intro H locs ls hH hS hl
  exact lv_if_le hx hb hd ht (fun h => kt h H locs ls hH hS hl) (fun h => kf h H locs ls hH hS hl)
theorem zw_icmp_le (K : zw_K X cc nL own rm) {x y : Int32} {off : Int} {tgt : Nat} (hd : decode cc pc = .ok (.if_icmp .le off, 3)) (ht : (pc : Int) + off = (tgt : Int)) (hp : pc + 3 = pc') (kt : x ≤ y → zw_Z X M c n tgt lv st) (kf : ¬ x ≤ y → zw_Z X M c n pc' lv st) : zw_Z X M c n pc lv (.int y :: .int x :: st) := by
  subst hp
  obtain ⟨hx, hb, -⟩ := K
  intro H locs ls hH hS hl
  exact lv_icmp_le hx hb hd ht (fun h => kt h H locs ls hH hS hl) (fun h => kf h H locs ls hH hS hl)
theorem zw_alen (K : zw_K X cc nL own rm) {a t0 : Nat} {cA : ClassId} {x : vp_A} {ty : FieldType} {v : Int32} (hM : M a = some (.inl (.inl (cA, x)))) (ht : (zw_ty (zw_Xw X))[t0]? = some (cA, ty)) (hv : Int32.ofNat x.1 = v) (hd : decode cc pc = .ok (.arraylength, 1)) (hp : pc + 1 = pc') (k : zw_Z X M c n pc' lv (.int v :: st)) : zw_Z X M c n pc lv (.ref a :: st) := by
  subst hp
  obtain ⟨hx, hb, -, -, -, -, -, hT, -⟩ := K
  intro H locs ls hH hS hl
  obtain ⟨ws, ar, h1, h2, h3⟩ := id hH
  obtain ⟨q0, hq0⟩ := h3.1 a _ hM
  exact va_alen hx hb hT.1 h1 q0 t0 hq0 ht hv hd (k H locs ls hH hS hl)
theorem zw_tlen (K : zw_K X cc nL own rm) (hd : decode cc pc = .ok (.arraylength, 1)) (hp : pc + 1 = pc') (k : zw_Z X M c n pc' lv (.int 0 :: st)) : zw_Z X M c n pc lv (.ref (zw_k (zw_Xw X) 5) :: st) := by
  subst hp
  obtain ⟨hx, hb, -, -, -, -, -, hT, -⟩ := K
  intro H locs ls hH hS hl
  exact va_tlen hx hb hT.2.1.2 hS rfl hd (k H locs ls hH hS hl)
theorem zw_aald (K : zw_K X cc nL own rm) {a t0 : Nat} {cA : ClassId} {E : String} {m : Nat} {f : Nat → Option Nat} {i : Int32} {r : Option Nat} (hM : M a = some (.inl (.inl (cA, m, .inr (.inr (.inr (.inr f))))))) (ht : (zw_ty (zw_Xw X))[t0]? = some (cA, .object E)) (hin : vp_in i m) (hv : f i.toNatClampNeg = r) (hd : decode cc pc = .ok (.aaload, 1)) (hp : pc + 1 = pc') (k : zw_Z X M c n pc' lv (va_rf r :: st)) : zw_Z X M c n pc lv (.int i :: .ref a :: st) := by
  subst hp; subst hv
  obtain ⟨hx, hb, -, -, -, -, -, hT, -⟩ := K
  intro H locs ls hH hS hl
  obtain ⟨ws, ar, h1, h2, h3⟩ := id hH
  obtain ⟨q0, hq0⟩ := h3.1 a _ hM
  exact va_aldq hx hb hT.1 h1 q0 t0 hq0 ht hin hd (k H locs ls hH hS hl)
theorem zw_aast (K : zw_K X cc nL own rm) {a t0 v ci : Nat} {cA : ClassId} {rr : vw_C} {m : Nat} {f : Nat → Option Nat} {vs : List Value} {i : Int32} (hM : M a = some (.inl (.inl (cA, m, .inr (.inr (.inr (.inr f))))))) (ht : (zw_ty (zw_Xw X))[t0]? = some (cA, .object rr.1)) (hV : M v = some (.inl (.inr (ci, vs)))) (hc : zw_cl[ci]? = some rr) (hin : vp_in i m) (hd : decode cc pc = .ok (.aastore, 1)) (hp : pc + 1 = pc') (k : zw_Z X (zw_u M a (.inl (.inl (cA, m, .inr (.inr (.inr (.inr (va_up f i.toNatClampNeg (some v))))))))) c n pc' lv st) : zw_Z X M c n pc lv (.ref v :: .int i :: .ref a :: st) := by
  subst hp
  obtain ⟨hx, hb, -, -, -, -, -, hT, -⟩ := K
  intro H locs ls hH hS hl
  obtain ⟨ws, ar, h1, h2, h3⟩ := id hH
  obtain ⟨q0, hq0⟩ := h3.1 a _ hM
  obtain ⟨qk, hqk⟩ := h3.1 v _ hV
  exact va_astq hx hb hT.1 h1 h2 hS q0 t0 qk ci hq0 ht hqk hc hin hd (fun H1 locs1 g1 g2 g3 => k H1 locs1 ls ⟨_, _, g1, g2, zw_set h2 hq0 hM h3⟩ g3 hl)
theorem zw_iald (K : zw_K X cc nL own rm) {a m : Nat} {f : Nat → Int32} {i : Int32} {v : Int32} (hM : M a = some (.inl (.inl (zw_k (zw_Xw X) 0, m, .inl f)))) (hin : vp_in i m) (hv : f i.toNatClampNeg = v) (hd : decode cc pc = .ok (.iaload, 1)) (hp : pc + 1 = pc') (k : zw_Z X M c n pc' lv (.int v :: st)) : zw_Z X M c n pc lv (.int i :: .ref a :: st) := by
  subst hp; subst hv
  obtain ⟨hx, hb, -, -, -, -, -, hT, -⟩ := K
  intro H locs ls hH hS hl
  obtain ⟨ws, ar, h1, h2, h3⟩ := id hH
  obtain ⟨q0, hq0⟩ := h3.1 a _ hM
  exact va_iald hx hb hT.1 h1 q0 0 hq0 rfl hin hd (k H locs ls hH hS hl)
theorem zw_zald (K : zw_K X cc nL own rm) {a m : Nat} {f : Nat → Int32} {i : Int32} {v : Int32} (hM : M a = some (.inl (.inl (zw_k (zw_Xw X) 1, m, .inl f)))) (hin : vp_in i m) (hv : f i.toNatClampNeg = v) (hd : decode cc pc = .ok (.baload, 1)) (hp : pc + 1 = pc') (k : zw_Z X M c n pc' lv (.int v :: st)) : zw_Z X M c n pc lv (.int i :: .ref a :: st) := by
  subst hp; subst hv
  obtain ⟨hx, hb, -, -, -, -, -, hT, -⟩ := K
  intro H locs ls hH hS hl
  obtain ⟨ws, ar, h1, h2, h3⟩ := id hH
  obtain ⟨q0, hq0⟩ := h3.1 a _ hM
  exact va_zald hx hb hT.1 h1 q0 1 hq0 rfl hin hd (k H locs ls hH hS hl)
theorem zw_lald (K : zw_K X cc nL own rm) {a m : Nat} {f : Nat → Int64} {i : Int32} {v : Int64} (hM : M a = some (.inl (.inl (zw_k (zw_Xw X) 2, m, .inr (.inl f))))) (hin : vp_in i m) (hv : f i.toNatClampNeg = v) (hd : decode cc pc = .ok (.laload, 1)) (hp : pc + 1 = pc') (k : zw_Z X M c n pc' lv (.long v :: st)) : zw_Z X M c n pc lv (.int i :: .ref a :: st) := by
  subst hp; subst hv
  obtain ⟨hx, hb, -, -, -, -, -, hT, -⟩ := K
  intro H locs ls hH hS hl
  obtain ⟨ws, ar, h1, h2, h3⟩ := id hH
  obtain ⟨q0, hq0⟩ := h3.1 a _ hM
  exact va_lald hx hb hT.1 h1 q0 2 hq0 rfl hin hd (k H locs ls hH hS hl)
theorem zw_iast (K : zw_K X cc nL own rm) {a m : Nat} {f : Nat → Int32} {i : Int32} {x : Int32} (hM : M a = some (.inl (.inl (zw_k (zw_Xw X) 0, m, .inl f)))) (hin : vp_in i m) (hd : decode cc pc = .ok (.iastore, 1)) (hp : pc + 1 = pc') (k : zw_Z X (zw_u M a (.inl (.inl (zw_k (zw_Xw X) 0, m, .inl (upd f i.toNatClampNeg x))))) c n pc' lv st) : zw_Z X M c n pc lv (.int x :: .int i :: .ref a :: st) := by
  subst hp
  obtain ⟨hx, hb, -, -, -, -, -, hT, -⟩ := K
  intro H locs ls hH hS hl
  obtain ⟨ws, ar, h1, h2, h3⟩ := id hH
  obtain ⟨q0, hq0⟩ := h3.1 a _ hM
  exact va_iast hx hb hT.1 h1 h2 hS q0 0 hq0 rfl hin hd (fun H1 locs1 g1 g2 g3 => k H1 locs1 ls ⟨_, _, g1, g2, zw_set h2 hq0 hM h3⟩ g3 hl)
theorem zw_zast (K : zw_K X cc nL own rm) {a m : Nat} {f : Nat → Int32} {i : Int32} {x : Int32} (hM : M a = some (.inl (.inl (zw_k (zw_Xw X) 1, m, .inl f)))) (hin : vp_in i m) (hd : decode cc pc = .ok (.bastore, 1)) (hp : pc + 1 = pc') (k : zw_Z X (zw_u M a (.inl (.inl (zw_k (zw_Xw X) 1, m, .inl (upd f i.toNatClampNeg (vp_nar .boolean x)))))) c n pc' lv st) : zw_Z X M c n pc lv (.int x :: .int i :: .ref a :: st) := by
  subst hp
  obtain ⟨hx, hb, -, -, -, -, -, hT, -⟩ := K
  intro H locs ls hH hS hl
  obtain ⟨ws, ar, h1, h2, h3⟩ := id hH
  obtain ⟨q0, hq0⟩ := h3.1 a _ hM
  exact va_zast hx hb hT.1 h1 h2 hS q0 1 hq0 rfl hin hd (fun H1 locs1 g1 g2 g3 => k H1 locs1 ls ⟨_, _, g1, g2, zw_set h2 hq0 hM h3⟩ g3 hl)
theorem zw_last (K : zw_K X cc nL own rm) {a m : Nat} {f : Nat → Int64} {i : Int32} {x : Int64} (hM : M a = some (.inl (.inl (zw_k (zw_Xw X) 2, m, .inr (.inl f))))) (hin : vp_in i m) (hd : decode cc pc = .ok (.lastore, 1)) (hp : pc + 1 = pc') (k : zw_Z X (zw_u M a (.inl (.inl (zw_k (zw_Xw X) 2, m, .inr (.inl (vp_updL f i.toNatClampNeg x)))))) c n pc' lv st) : zw_Z X M c n pc lv (.long x :: .int i :: .ref a :: st) := by
  subst hp
  obtain ⟨hx, hb, -, -, -, -, -, hT, -⟩ := K
  intro H locs ls hH hS hl
  obtain ⟨ws, ar, h1, h2, h3⟩ := id hH
  obtain ⟨q0, hq0⟩ := h3.1 a _ hM
  exact va_last hx hb hT.1 h1 h2 hS q0 2 hq0 rfl hin hd (fun H1 locs1 g1 g2 g3 => k H1 locs1 ls ⟨_, _, g1, g2, zw_set h2 hq0 hM h3⟩ g3 hl)
end ZW
