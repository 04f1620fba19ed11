/-! The Z layer, third part: lists taken apart and put together, handlers, what the JDK's methods use. -/
set_option maxRecDepth 100000
abbrev zw_oL (mc : Int32) (arr n : Nat) : zw_En := .inl (.inr (5, [.int mc, .ref arr, .int (nI n)]))
theorem zw_H.opn {w : zw_W} {M : zw_M} {H : Heap} (h : zw_H w M H) {l n : Nat} {el : Nat → Nat} (hM : M l = some (.inr (n, el))) (hn : 0 < n) : ∃ (arr cap : Nat) (f : Nat → Option Nat) (mc : Int32), n ≤ cap ∧ cap ≤ 64 ∧ (∀ i, i < n → f i = some (el i)) ∧ M arr = none ∧ arr ≠ l ∧ zw_H w (zw_u (zw_u M l (zw_oL mc arr n)) arr (zw_eO w cap f)) H := by
  obtain ⟨ws, ar, h1, h2, h3, h4, h5⟩ := h
  obtain ⟨mc, ⟨k1, hk1⟩, h7⟩ := h4 l n el hM
  obtain ⟨cap, f, ⟨k2, hk2⟩, a1, a2, a3⟩ := h7 hn
  obtain ⟨g1, g2⟩ := h5 l n el hM hn
  have hne : ar l ≠ l := fun q => by rw [q, hM] at g1; cases g1
  rw [if_neg (by omega)] at hk1
  have back : ∀ (l' n' : Nat) (el' : Nat → Nat), zw_u (zw_u M l (zw_oL mc (ar l) n)) (ar l) (zw_eO w cap f) l' = some (.inr (n', el')) → l' ≠ l ∧ l' ≠ ar l ∧ M l' = some (.inr (n', el')) := by
    intro l' n' el' hx
    by_cases q1 : l' = ar l
    · subst q1; rw [zw_us] at hx; cases hx
    · rw [zw_un q1] at hx
      by_cases q2 : l' = l
      · subst q2; rw [zw_us] at hx; cases hx
      · rw [zw_un q2] at hx; exact ⟨q2, q1, hx⟩
  refine ⟨ar l, cap, f, mc, a1, a2, a3, g1, hne, ws, ar, h1, h2, fun a e he => ?_, fun l' n' el' hx => ?_, fun l' n' el' hx hp => ?_⟩
  · by_cases q1 : a = ar l
    · subst q1; rw [zw_us] at he; cases he; exact ⟨k2, hk2⟩
    · rw [zw_un q1] at he
      by_cases q2 : a = l
      · subst q2; rw [zw_us] at he; cases he; exact ⟨k1, hk1⟩
      · rw [zw_un q2] at he; exact h3 a e he
  · exact h4 l' n' el' (back l' n' el' hx).2.2
  · obtain ⟨b1, b2, b3⟩ := back l' n' el' hx
    obtain ⟨c1, c2⟩ := h5 l' n' el' b3 hp
    refine ⟨?_, fun l2 n2 el2 hx2 hp2 => c2 l2 n2 el2 (back l2 n2 el2 hx2).2.2 hp2⟩
    have d1 : ar l' ≠ ar l := fun q => b1 (c2 l n el hM hn q)
    have d2 : ar l' ≠ l := fun q => by rw [q, hM] at c1; cases c1
    rw [zw_un d1, zw_un d2]; exact c1
theorem zw_H.opn0 {w : zw_W} {M : zw_M} {H : Heap} (h : zw_H w M H) {l : Nat} {el : Nat → Nat} (hM : M l = some (.inr (0, el))) : ∃ mc : Int32, zw_H w (zw_u M l (zw_oL mc (zw_k w 5) 0)) H := by
  obtain ⟨ws, ar, h1, h2, h3, h4, h5⟩ := h
  obtain ⟨mc, ⟨k1, hk1⟩, h7⟩ := h4 l 0 el hM
  rw [if_pos rfl] at hk1
  have back : ∀ (l' n' : Nat) (el' : Nat → Nat), zw_u M l (zw_oL mc (zw_k w 5) 0) l' = some (.inr (n', el')) → l' ≠ l ∧ M l' = some (.inr (n', el')) := by
    intro l' n' el' hx
    by_cases q2 : l' = l
    · subst q2; rw [zw_us] at hx; cases hx
    · rw [zw_un q2] at hx; exact ⟨q2, hx⟩
  refine ⟨mc, ws, ar, h1, h2, fun a e he => ?_, fun l' n' el' hx => ?_, fun l' n' el' hx hp => ?_⟩
  · by_cases q2 : a = l
    · subst q2; rw [zw_us] at he; cases he; exact ⟨k1, hk1⟩
    · rw [zw_un q2] at he; exact h3 a e he
  · exact h4 l' n' el' (back l' n' el' hx).2
  · obtain ⟨b1, b3⟩ := back l' n' el' hx
    obtain ⟨c1, c2⟩ := h5 l' n' el' b3 hp
    refine ⟨?_, fun l2 n2 el2 hx2 hp2 => c2 l2 n2 el2 (back l2 n2 el2 hx2).2 hp2⟩
    have d2 : ar l' ≠ l := fun q => by rw [q, hM] at c1; cases c1
    rw [zw_un d2]; exact c1
theorem zw_H.close {w : zw_W} {M M' : zw_M} {H : Heap} (h : zw_H w M H) {l n arr cap : Nat} {el : Nat → Nat} {f : Nat → Option Nat} {mc : Int32} (hl : M l = some (zw_oL mc arr n)) (ha : M arr = some (zw_eO w cap f)) (hn : 0 < n) (hc : n ≤ cap) (hc2 : cap ≤ 64) (hf : ∀ i, i < n → f i = some (el i)) (hl' : M' l = some (.inr (n, el))) (ha' : M' arr = none) (ho : ∀ a, a ≠ l → a ≠ arr → M' a = M a) : zw_H w M' H := by
  obtain ⟨ws, ar, h1, h2, h3, h4, h5⟩ := h
  have hne : arr ≠ l := fun q => by rw [q, hl'] at ha'; cases ha'
  obtain ⟨k1, hk1⟩ := h3 l _ hl
  obtain ⟨k2, hk2⟩ := h3 arr _ ha
  have back : ∀ (l' n' : Nat) (el' : Nat → Nat), M' l' = some (.inr (n', el')) → l' ≠ l → M l' = some (.inr (n', el')) := by
    intro l' n' el' hx q
    have q2 : l' ≠ arr := fun q2 => by rw [q2, ha'] at hx; cases hx
    rw [← ho l' q q2]; exact hx
  refine ⟨ws, fun x => if x = l then arr else ar x, h1, h2, fun a e he => ?_, fun l' n' el' hx => ?_, fun l' n' el' hx hp => ?_⟩
  · have q1 : a ≠ l := fun q => by rw [q, hl'] at he; cases he
    have q2 : a ≠ arr := fun q => by rw [q, ha'] at he; cases he
    rw [ho a q1 q2] at he
    exact h3 a e he
  · by_cases q : l' = l
    · subst q
      rw [hl'] at hx
      cases hx
      dsimp only
      rw [if_pos rfl]
      exact ⟨mc, ⟨k1, by rw [if_neg (by omega)]; exact hk1⟩, fun _ => ⟨cap, f, ⟨k2, hk2⟩, hc, hc2, hf⟩⟩
    · dsimp only
      rw [if_neg q]
      exact h4 l' n' el' (back l' n' el' hx q)
  · by_cases q : l' = l
    · subst q
      dsimp only
      rw [if_pos rfl]
      refine ⟨ha', fun l2 n2 el2 hx2 hp2 e => ?_⟩
      by_cases q2 : l2 = l'
      · exact q2.symm
      · rw [if_neg q2] at e
        have := (h5 l2 n2 el2 (back l2 n2 el2 hx2 q2) hp2).1
        rw [← e, ha] at this
        cases this
    · dsimp only
      rw [if_neg q]
      obtain ⟨c1, c2⟩ := h5 l' n' el' (back l' n' el' hx q) hp
      have d2 : ar l' ≠ l := fun q => by rw [q, hl] at c1; cases c1
      have d3 : ar l' ≠ arr := fun q => by rw [q, ha] at c1; cases c1
      refine ⟨by rw [ho _ d2 d3]; exact c1, fun l2 n2 el2 hx2 hp2 e => ?_⟩
      by_cases q2 : l2 = l
      · subst q2
        rw [if_pos rfl] at e
        exact absurd e d3
      · rw [if_neg q2] at e
        exact c2 l2 n2 el2 (back l2 n2 el2 hx2 q2) hp2 e
theorem zw_H.close0 {w : zw_W} {M M' : zw_M} {H : Heap} (h : zw_H w M H) {l : Nat} {el : Nat → Nat} {mc : Int32} (hl : M l = some (zw_oL mc (zw_k w 5) 0)) (hl' : M' l = some (.inr (0, el))) (ho : ∀ a, a ≠ l → M' a = M a) : zw_H w M' H := by
  obtain ⟨ws, ar, h1, h2, h3, h4, h5⟩ := h
  obtain ⟨k1, hk1⟩ := h3 l _ hl
  have back : ∀ (l' n' : Nat) (el' : Nat → Nat), M' l' = some (.inr (n', el')) → l' ≠ l → M l' = some (.inr (n', el')) := by
    intro l' n' el' hx q
    rw [← ho l' q]; exact hx
  refine ⟨ws, ar, h1, h2, fun a e he => ?_, fun l' n' el' hx => ?_, fun l' n' el' hx hp => ?_⟩
  · have q1 : a ≠ l := fun q => by rw [q, hl'] at he; cases he
    rw [ho a q1] at he
    exact h3 a e he
  · by_cases q : l' = l
    · subst q
      rw [hl'] at hx
      cases hx
      exact ⟨mc, ⟨k1, by rw [if_pos rfl]; exact hk1⟩, fun hp => absurd hp (Nat.lt_irrefl 0)⟩
    · exact h4 l' n' el' (back l' n' el' hx q)
  · have q : l' ≠ l := by
      intro q
      subst q
      rw [hl'] at hx
      cases hx
      exact absurd hp (Nat.lt_irrefl 0)
    obtain ⟨c1, c2⟩ := h5 l' n' el' (back l' n' el' hx q) hp
    have d2 : ar l' ≠ l := fun q => by rw [q, hl] at c1; cases c1
    refine ⟨by rw [ho _ d2]; exact c1, fun l2 n2 el2 hx2 hp2 e => ?_⟩
    have q2 : l2 ≠ l := by
      intro q2
      subst q2
      rw [hl'] at hx2
      cases hx2
      exact absurd hp2 (Nat.lt_irrefl 0)
    exact c2 l2 n2 el2 (back l2 n2 el2 hx2 q2) hp2 e
section ZV
variable {X : zw_X} {cc : ByteArray} {nL : Nat} {own : String} {rm : Room} {M M' : zw_M} {c n pc pc' : Nat} {lv lv' : List (Option Value)} {st : List Value}
theorem zw_opn {l ln : Nat} {el : Nat → Nat} (hM : M l = some (.inr (ln, el))) (hn : 0 < ln) (k : ∀ (arr cap : Nat) (f : Nat → Option Nat) (mc : Int32), ln ≤ cap → cap ≤ 64 → (∀ i, i < ln → f i = some (el i)) → M arr = none → arr ≠ l → zw_Z X (zw_u (zw_u M l (zw_oL mc arr ln)) arr (zw_eO (zw_Xw X) cap f)) c n pc lv st) : zw_Z X M c n pc lv st := by
  intro H locs ls hH hS hl
  obtain ⟨arr, cap, f, mc, h1, h2, h3, h4, h5, h6⟩ := hH.opn hM hn
  exact k arr cap f mc h1 h2 h3 h4 h5 H locs ls h6 hS hl
theorem zw_opn0 {l : Nat} {el : Nat → Nat} (hM : M l = some (.inr (0, el))) (k : ∀ mc : Int32, zw_Z X (zw_u M l (zw_oL mc (zw_k (zw_Xw X) 5) 0)) c n pc lv st) : zw_Z X M c n pc lv st := by
  intro H locs ls hH hS hl
  obtain ⟨mc, h6⟩ := hH.opn0 hM
  exact k mc H locs ls h6 hS hl
theorem zw_close {l ln arr cap : Nat} {el : Nat → Nat} {f : Nat → Option Nat} {mc : Int32} (hl : M l = some (zw_oL mc arr ln)) (ha : M arr = some (zw_eO (zw_Xw X) cap f)) (hn : 0 < ln) (hc : ln ≤ cap) (hc2 : cap ≤ 64) (hf : ∀ i, i < ln → f i = some (el i)) (hl' : M' l = some (.inr (ln, el))) (ha' : M' arr = none) (ho : ∀ a, a ≠ l → a ≠ arr → M' a = M a) (k : zw_Z X M' c n pc lv st) : zw_Z X M c n pc lv st :=
  fun H locs ls hH hS hl9 => k H locs ls (hH.close hl ha hn hc hc2 hf hl' ha' ho) hS hl9
theorem zw_close0 {l : Nat} {el : Nat → Nat} {mc : Int32} (hl : M l = some (zw_oL mc (zw_k (zw_Xw X) 5) 0)) (hl' : M' l = some (.inr (0, el))) (ho : ∀ a, a ≠ l → M' a = M a) (k : zw_Z X M' c n pc lv st) : zw_Z X M c n pc lv st :=
  fun H locs ls hH hS hl9 => k H locs ls (hH.close0 hl hl' ho) hS hl9
/-- the same map, told otherwise -/
theorem zw_ext (h : ∀ a, M a = M' a) (k : zw_Z X M' c n pc lv st) : zw_Z X M c n pc lv st := by
  have e : M = M' := funext h
  rw [e]; exact k
/-- what the machine's class objects are asked for -/
theorem zw_getC (K : zw_K X cc nL own rm) {a m index : Nat} {f : Nat → Option Nat} (hM : M a = some (zw_eO (zw_Xw X) m f)) (h1 : Cond.methodLink own index ⟨"java/lang/Object", "getClass", "()Ljava/lang/Class;"⟩ ∈ lw_all) (h2 : Cond.declares ⟨"java/lang/Object", "getClass", "()Ljava/lang/Class;"⟩ ∈ lw_tbl) (h3 : Cond.selects "[Ljava/lang/Object;" ⟨"java/lang/Object", "getClass", "()Ljava/lang/Class;"⟩ ⟨"java/lang/Object", "getClass", "()Ljava/lang/Class;"⟩ ∈ lw_all) (h4 : Cond.instanceMethod ⟨"java/lang/Object", "getClass", "()Ljava/lang/Class;"⟩ ∈ lw_all) (h5 : Cond.native ⟨"java/lang/Object", "getClass", "()Ljava/lang/Class;"⟩ ∈ lw_all) (hd : decode cc pc = .ok (.invokevirtual index, 3)) (hp : pc + 3 = pc') (hr : 1 ≤ rm.frames ∧ (st.map fun v => v.category).sum + 14 ≤ rm.locals) (k : zw_Z X M c n pc' lv (.ref (zw_k (zw_Xw X) 6) :: st)) : zw_Z X M c n pc lv (.ref a :: st) := by
  subst hp
  obtain ⟨hx, hb, -, hown, hts, hR, -, hT, -⟩ := K
  intro H locs ls hH hS hl
  obtain ⟨ws, ar, g1, g2, g3⟩ := id hH
  obtain ⟨q0, hq0⟩ := g3.1 a _ hM
  exact va_getC hx hb hl.1.symm hown (hts _ h1) (va_Nw.use rfl (hT.2.2.2.2.2.1 _ h2 rfl)) (hts _ h3) (hts _ h4) (hts _ h5) hT.2.2.2.1 ⟨_, g1 q0 _ hq0, rfl, va_nmO (hT.1.2 3 _ rfl).2 (by decide +kernel)⟩ (by rw [hR]; exact hr.1) (by rw [hR]; exact hr.2) hd (k H locs ls hH hS hl)
theorem zw_ldcM (K : zw_K X cc nL own rm) {index : Nat} (h1 : Cond.classLink own index "[Ljava/lang/Object;" ∈ lw_all) (hd : decode cc pc = .ok (.ldc index, 2)) (hp : pc + 2 = pc') (k : zw_Z X M c n pc' lv (.ref (zw_k (zw_Xw X) 6) :: st)) : zw_Z X M c n pc lv st := by
  subst hp
  obtain ⟨hx, hb, -, hown, hts, hR, -, hT, -⟩ := K
  intro H locs ls hH hS hl
  exact va_ldcM hx hb hown (hts _ h1) hT.2.2.2.1 hd (k H locs ls hH hS hl)
/-- System.arraycopy between two Object[]; what is copied are objects of our classes -/
theorem zw_copy (K : zw_K X cc nL own rm) {a b m0 m1 index : Nat} {f g : Nat → Option Nat} {sp dp j : Int32} (hM : M a = some (zw_eO (zw_Xw X) m0 f)) (hN : M b = some (zw_eO (zw_Xw X) m1 g)) (h1 : Cond.methodLink own index arraycopyName ∈ lw_all) (h2 : Cond.native arraycopyName ∈ lw_all) (h3 : Cond.static arraycopyName ∈ lw_all) (h4 : Cond.initialized "java/lang/System" ∈ lw_all) (e1 : ¬ sp < 0) (e2 : ¬ dp < 0) (e3 : ¬ j < 0) (e4 : sp.toNatClampNeg + j.toNatClampNeg ≤ m0) (e5 : dp.toNatClampNeg + j.toNatClampNeg ≤ m1)
    (hel : ∀ i : Nat, i < j.toNatClampNeg → ∀ y : Nat, f (sp.toNatClampNeg + i) = some y → ∃ (ci : Nat) (rr : vw_C) (fs : List Value), zw_cl[ci]? = some rr ∧ M y = some (.inl (.inr (ci, fs))) ∧ Cond.castable rr.1 "java/lang/Object" ∈ lw_tbl) (hd : decode cc pc = .ok (.invokestatic index, 3)) (hp : pc + 3 = pc') (hr : 1 ≤ rm.frames ∧ (st.map fun v => v.category).sum + (nativeFrameWords "java/lang/System" "arraycopy" 5 + 11) ≤ rm.locals)
    (k : zw_Z X (zw_u M b (zw_eO (zw_Xw X) m1 (va_cpy f g sp.toNatClampNeg dp.toNatClampNeg j.toNatClampNeg))) c n pc' lv st) : zw_Z X M c n pc lv (.int j :: .int dp :: .ref b :: .int sp :: .ref a :: st) := by
  subst hp
  obtain ⟨hx, hb, -, hown, hts, hR, -, hT, -⟩ := K
  intro H locs ls hH hS hl
  obtain ⟨ws, ar, g1, g2, g3⟩ := id hH
  obtain ⟨q0, hq0⟩ := g3.1 a _ hM
  obtain ⟨q1, hq1⟩ := g3.1 b _ hN
  refine va_copyM hx hb hl.1.symm hown (hts _ h1) (hts _ h2) (hts _ h3) (hts _ h4) hT.1 g1 g2 hS q0 q1 3 3 hq0 hq1 rfl rfl e1 e2 e3 e4 e5 (fun i hi y hy => ?_) (by rw [hR]; exact hr.1) (by rw [hR]; exact hr.2) hd (fun H1 locs1 k1 k2 k3 => k H1 locs1 ls ⟨_, _, k1, k2, zw_set g2 hq1 hN g3⟩ k3 hl)
  obtain ⟨ci, rr, fs, hc, hy2, hcs⟩ := hel i hi y hy
  obtain ⟨q2, hq2⟩ := g3.1 y _ hy2
  refine va_rAny hT.1 g1 hq2 hc (fun comp c0 f1 f2 => ?_)
  obtain ⟨c3, t3, w1, w2, w3⟩ := Cond.castable_spec (va_Nw.use (A := #[]) rfl (hT.2.2.2.2.2.1 _ hcs rfl))
  cases f2.symm.trans w1
  cases f1.symm.trans w2
  exact w3
/-- an object into an Object[] -/
theorem zw_aastO (K : zw_K X cc nL own rm) {a v ci : Nat} {rr : vw_C} {m : Nat} {f : Nat → Option Nat} {vs : List Value} {i : Int32} (hM : M a = some (zw_eO (zw_Xw X) m f)) (hV : M v = some (.inl (.inr (ci, vs)))) (hc : zw_cl[ci]? = some rr) (hcs : Cond.castable rr.1 "java/lang/Object" ∈ lw_tbl) (hin : vp_in i m) (hd : decode cc pc = .ok (.aastore, 1)) (hp : pc + 1 = pc') (k : zw_Z X (zw_u M a (zw_eO (zw_Xw X) m (va_up f i.toNatClampNeg (some v)))) c n pc' lv st) : zw_Z X M c n pc lv (.ref v :: .int i :: .ref a :: st) := by
  subst hp
  obtain ⟨hx, hb, -, -, -, -, -, hT, -⟩ := K
  intro H locs ls hH hS hl
  obtain ⟨ws, ar, h1, h2, h3⟩ := id hH
  obtain ⟨q0, hq0⟩ := h3.1 a _ hM
  obtain ⟨q2, hq2⟩ := h3.1 v _ hV
  refine va_astqM hx hb hT.1 h1 h2 hS q0 3 hq0 rfl (va_rAny hT.1 h1 hq2 hc (fun comp c0 f1 f2 => ?_)) hin hd (fun H1 locs1 g1 g2 g3 => k H1 locs1 ls ⟨_, _, g1, g2, zw_set h2 hq0 hM h3⟩ g3 hl)
  obtain ⟨c3, t3, w1, w2, w3⟩ := Cond.castable_spec (va_Nw.use (A := #[]) rfl (hT.2.2.2.2.2.1 _ hcs rfl))
  cases f2.symm.trans w1
  cases f1.symm.trans w2
  exact w3
/-- a method of Object, found by the receiver -/
theorem zw_callU (K : zw_K X cc nL own rm) {y : MethodName} {bytes : ByteArray} {maxL : Nat} {ret : Option FieldType} {rc : Room} {As rest : List Value} {Po : Option Value → zw_M → Prop} {Px : String → zw_M → Prop} {index c' n' b ci : Nat} {rr : vw_C} {fs : List Value} (ct : zw_C X.2.2.2.2.2.2.2.2.2.2.2 X.2.1 y bytes maxL ret rc (.ref b :: As) M Po Px) (hci : zw_cl[ci]? = some rr) (h1 : Cond.methodLink own index y ∈ lw_all) (h2 : Cond.sameMethod y.cls y.cls y.name y.desc ∈ lw_all) (h3 : Cond.selects rr.1 y y ∈ lw_all) (h4 : Cond.instanceMethod y ∈ lw_all) (h5 : Cond.initialized y.cls ∈ lw_all) (h6 : Cond.code y bytes maxL ret ∈ lw_all) (hd3 : y.cls ≠ "java/lang/invoke/MethodHandle" ∧ y.cls ≠ "java/lang/invoke/VarHandle" ∧ (parseMethodDescriptor y.desc).map (fun d => d.parameters.length) = some As.length)
    (hM : M b = some (.inl (.inr (ci, fs)))) (hst : st = As.reverse ++ .ref b :: rest) (hd : decode cc pc = .ok (.invokevirtual index, 3)) (hp : pc + 3 = pc') (hW : (rest.map fun v => v.category).sum ≤ 8) (hR : rc.frames + 1 ≤ rm.frames ∧ 8 + (maxL + 11) + rc.locals ≤ rm.locals) (hc : c + rc.cells ≤ c' ∧ n + rc.slots ≤ n' ∧ c' ≤ rm.cells ∧ n' ≤ rm.slots)
    (kk : ∀ (v : Option Value) (M1 : zw_M), Po v M1 → zw_Z X M1 c' n' pc' lv (v.toList ++ rest)) (kx : ∀ (E : String) (M1 : zw_M), Px E M1 → zw_ZX X M1 c' n' pc lv E) : zw_Z X M c n pc lv st := by
  subst hp; subst hst
  have hrc := fun H hH => zw_recv K (H := H) hH hci hM
  obtain ⟨hx, hb, hml, hown, hts, hRR, -, hT, -⟩ := K
  refine zw_back3 (rest := rest) (a := (Value.ref b :: As).toArray) (fun H locs ls hH hS hl => ?_) ⟨hc.1, hc.2.1⟩ kk kx
  have hgood : GoodIn lw_all (va_wsU own index rr.1 y.cls y y (ws_ y bytes maxL ret)) := by
    refine lw_app ?_ (lw_meth h6)
    intro w hw
    simp only [List.mem_cons, List.not_mem_nil, or_false] at hw
    rcases hw with e | e | e | e | e
    · rw [e]; exact h1
    · rw [e]; exact h2
    · rw [e]; exact h3
    · rw [e]; exact h4
    · rw [e]; exact h5
  exact vx_runU ⟨hx, hb, hml, hown, hts⟩ ct (va_cwU (owner := y.cls) As.length hts hgood rfl rfl rfl rfl hd3 (by rw [hRR]; exact hR)) ⟨zw_blind, hrc H hH, zw_pre hT hH hS⟩ rfl rfl (hl.1.trans hml) rfl (lv_room hW) hd (by rw [hRR]; omega)
/-- caught by the row x of this method's table; the rows ahead name other classes -/
theorem zw_catch (K : zw_K X cc nL own rm) {E name : String} {tab : List ExceptionTableEntry} (htab : X.2.2.2.2.2.2.2.2.2.1.exceptionTable.toList = tab) (pre : List ExceptionTableEntry) (x : ExceptionTableEntry) (suf : List ExceptionTableEntry) (hsplit : tab = pre ++ x :: suf)
    (hpass : ∀ z ∈ pre, covers z pc = false ∨ (z.catchType ≠ 0 ∧ ∃ nm : String, Cond.classLink own z.catchType nm ∈ lw_all ∧ (E, nm) ∈ zw_ncs)) (hx : covers x pc = true) (h0 : x.catchType ≠ 0) (hlink : Cond.classLink own x.catchType name ∈ lw_all) (hcast : Cond.castable E name ∈ lw_tbl) (k : ∀ q : Nat, zw_Z X M c n x.handlerPc lv [.ref q]) : zw_ZX X M c n pc lv E := by
  obtain ⟨hx0, hb, hml, hown, hts, hRR, -, hT, -⟩ := K
  intro H locs ls q ce rest hH hS hl h1 h2 h3
  refine vx_catch hown pre x suf (htab.trans hsplit) (fun z hz => ?_) hx h0 (hts _ hlink) (va_Nw.use rfl (hT.2.2.2.2.2.1 _ hcast rfl)) h1 h2 h3 (k q H locs ls hH hS hl)
  rcases hpass z hz with h | ⟨g1, nm, g2, g3⟩
  · exact Or.inl h
  · exact Or.inr ⟨g1, nm, hts _ g2, hT.2.2.2.2.2.2.1 _ g3⟩
end ZV
/-- the contract of a method with handlers that throws nothing -/
def zw_CW (w : zw_W) (l : Launch) (y : MethodName) (cc : ByteArray) (nL : Nat) (ret : Option FieldType) (hh : List (Nat × Nat × Nat × Nat)) (rm : Room) (av : List Value) (M : zw_M) (Po : Option Value → zw_M → Prop) (Px : String → zw_M → Prop) : Prop :=
  vx_Met l y (wsW_ y cc nL ret hh) rm (va_Pc av (fun U => zw_T w U ∧ zw_H w M U.heap)) (zw_Q w Po) (zw_QX w Px) rm.cells rm.slots (zw_A w)

