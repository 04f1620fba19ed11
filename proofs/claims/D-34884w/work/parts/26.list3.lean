/-! java.util.ArrayList, third part: add, contains -/
set_option maxRecDepth 100000
def zlu (el : Nat → Nat) (n x : Nat) : Nat → Nat := fun i => if i = n then x else el i
/-- a body of a class that isn't plainly named, by its own name -/
theorem zw_enterF {w : zw_W} {l : Launch} {y : MethodName} {cc : ByteArray} {nL : Nat} {ret : Option FieldType} {rm : Room} {av : List Value} {M : zw_M} {Po : Option Value → zw_M → Prop} {Px : String → zw_M → Prop} (own : String) (hown : y.cls = own) (hy : plainFor y = true) (hl : l.stackTraces = false) (hc : ∀ v ∈ av, v.category = 1) (hn : (lg_sl av).length ≤ nL)
    (body : ∀ X : zw_X, zw_Xl X = l → zw_Xw X = w → zw_K X cc nL own rm → zw_E X ret Po Px rm.cells rm.slots → zw_Z X M 0 0 0 (zw_lv0 av nL) []) : zw_C w l y cc nL ret rm av M Po Px := by
  refine MetFree.of_bodySF (code := cc) (maxLocals := nL) (ret := ret) hy ?_ ?_
  · intro args s m h hn
    obtain ⟨meth, c, h1, h2, h3, h4, h5, h6, -, -⟩ := Cond.code_spec hn (atoms_spec (ws := ws_ y cc nL ret) h _ List.mem_cons_self)
    exact ⟨meth, c, h1, h2, h3, h4, h5, h6⟩
  · intro p e s m args below meth c s₁ B hml hv _
    have hh0 : s₁.heap = s.heap := by rw [B.state]; rfl
    obtain ⟨rfl, hT, hH⟩ := hv
    have hts := atoms_spec (ws := ws_ y cc nL ret) B.pre
    have hts : ∀ w ∈ lw_all, w.before _ s = true := fun w h => hts w (List.mem_cons_of_mem _ h)
    have hfc : s.vm.findClass own = some m.cls := by rw [← hown]; exact findClass_of_methodNamed B.named
    have hb := body (p, l, e, rm, s, m, av.toArray, below, meth, c, vx_MQ below (zw_Q w Po) (zw_QX w Px) av.toArray s rm.cells rm.slots (zw_A w), w) rfl rfl ⟨B.exec, B.bytes, hml, hfc, hts, rfl, B.notSynchronized, hT, hl⟩ ⟨B.returns, rfl⟩
    have hW : W p l e (headSpec (ws_ y cc nL ret) rm).room s m av.toArray below meth c s.heap [] 0 0 (vx_MQ below (zw_Q w Po) (zw_QX w Px) av.toArray s rm.cells rm.slots (zw_A w)) (entryFrame m av.toArray nL) := by
      rw [lg_entry_eq]
      refine hb s.heap [] _ hH va_S.rf ?_
      show zw_L _ c.maxLocals _
      rw [hml]
      exact zw_L0 av hc hn
    obtain ⟨t, a1, o, b1, b2, b3⟩ := hW s₁ hh0 (Stand.of_body B)
    exact ⟨t, o, a1, b1, b2, b3⟩
set_option maxHeartbeats 2000000 in
theorem ct_J2_add_2 {w : zw_W} {la : Launch} (hl : la.stackTraces = false) (M0 M : zw_M) (l n x : Nat) {el : Nat → Nat} {mc : Int32} {arr : Nat} (hO : zlo w M0 l n el M mc arr) (hn30 : n ≤ 30) (hx : zlk M0 x) (hel : ∀ i, i < n → zlk M0 (el i)) : zw_C w la yJ2_add_2 cJ2_add_2 4 (Option.none : Option Jvm.ClassFile.FieldType) (zr 6 1 64) [.ref l, .ref x, .ref arr, .int (nI n)] M (zw_pv fun M1 => M1 = zw_u M0 l (zw_eL (n + 1) (zlu el n x))) zw_no := by
  refine zw_enter RJ2 rfl (by decide) hl (by simp [Value.category]) (Nat.le_of_ble_eq_true rfl) (fun X hXl hXw K hE htab hcon => ?_)
  subst hXl; subst hXw
  show zw_Z X _ 0 0 0 [some (.ref l), some (.ref x), some (.ref arr), some (.int (nI n))] []
  obtain ⟨ci, rr, fs, hk1, hk2, hk3⟩ := hx
  have hxl : x ≠ l := zw_ne hk2 hO.2.1 (by simp)
  have hMx := hO.2.2.1 x _ hxl hk2
  have hMl := hO.1
  have step : ∀ (c n' q cap : Nat) (g : Nat → Option Nat) (M' : zw_M) (o3 : Option Value), c ≤ 1 → n' ≤ 64 → M' l = some (zw_oL mc q n) → M' q = some (zw_eO (zw_Xw X) cap g) → n < cap → cap ≤ 64 → (∀ i, i < n → g i = some (el i)) → M0 q = none → (∀ a e, a ≠ l → M0 a = some e → M' a = some e) → zw_Z X M' c n' 11 [some (.ref l), some (.ref x), some (.ref q), some (.int (nI n))] [] := by
    intro c n' q cap g M' o3 hc hn' h1 h2 h3 h4 h5 h6 h7
    have h9 := h7 x _ hxl hk2
    refine zw_aload_n (v := .ref q) (pc' := 12) K dJ2_add_2_11 rfl rfl rfl ?_
    refine zw_iload_n (x := nI n) (pc' := 13) K dJ2_add_2_12 rfl rfl ?_
    refine zw_aload_n (v := .ref x) (pc' := 14) K dJ2_add_2_13 rfl rfl rfl ?_
    refine zw_aastO (pc' := 15) K h2 h9 hk1 hk3 (vp_in_nI (by omega) (by omega)) dJ2_add_2_14 rfl ?_
    refine zw_nmM (fun M1 eM1 => ?_)
    have f2 : M1 l = some (zw_eC 5 [.int mc, .ref q, .int (nI n)]) := by rw [eM1]; exact zw_un' (zw_ne h1 h2 (by simp)) h1
    have f3 : M1 q = some (zw_eO (zw_Xw X) cap (va_up g (nI n).toNatClampNeg (some x))) := by rw [eM1]; exact zw_us
    refine zw_aload_n (v := .ref l) (pc' := 16) K dJ2_add_2_15 rfl rfl rfl ?_
    refine zw_iload_n (x := nI n) (pc' := 17) K dJ2_add_2_16 rfl rfl ?_
    refine zw_iconst (v := 1) (pc' := 18) K dJ2_add_2_17 (by decide) rfl ?_
    refine zw_iadd (pc' := 19) K dJ2_add_2_18 rfl ?_
    rw [nI_1]
    refine zp_J2_48 (v := .int (nI (n + 1))) (pc' := 22) K f2 rfl rfl (by simp) dJ2_add_2_19 rfl ?_
    refine zw_nmM (fun M4 eM4 => ?_)
    have f5 : M4 l = some (zw_eC 5 [.int mc, .ref q, .int (nI (n + 1))]) := by rw [eM4]; exact zw_us
    have f6 : M4 q = some (zw_eO (zw_Xw X) cap (va_up g (nI n).toNatClampNeg (some x))) := by rw [eM4]; exact zw_un' (zw_ne f3 f2 (by simp)) f3
    refine zw_clA (M0 := M0) (el := zlu el n x) (ln := n + 1) f5 f6 (by omega) (by omega) h4 (fun i hi => ?_) h6 (fun a e ha he => ?_) ?_
    · rw [nI_clamp (by omega)]; by_cases z : i = n
      · subst z; rw [show zlu el i x i = x from if_pos rfl]; exact if_pos rfl
      · rw [show zlu el n x i = el i from if_neg z]; exact (if_neg z).trans (h5 i (by omega))
    · rw [eM4, eM1, zw_un ha]; exact zw_un' (zw_nn he h6) (h7 a e ha he)
    exact zw_vret K hE dJ2_add_2_22 ⟨hc, hn'⟩ rfl
  rcases hO.2.2.2 with ⟨rfl, rfl⟩ | ⟨hn, h0, cap, f, hA, hc1, hc2, hf⟩
  · refine zw_iload_n (x := nI 0) (pc' := 1) K dJ2_add_2_0 rfl rfl ?_
    refine zw_aload_n (v := .ref (zw_k (zw_Xw X) 5)) (pc' := 2) K dJ2_add_2_1 rfl rfl rfl ?_
    refine zw_tlen (pc' := 3) K dJ2_add_2_2 rfl ?_
    refine zw_icmp_ne (tgt := 11) (pc' := 6) K dJ2_add_2_3 (by decide) rfl (fun c3 => by exact absurd rfl c3) (fun c3 => ?_)
    refine zw_aload_n (v := .ref l) (pc' := 7) K dJ2_add_2_6 rfl rfl rfl ?_
    refine zc_J2_129 (rest := []) (c' := 1) (n' := 64) (pc' := 10) K (ct_J2_grow hl M l 0 (f := fun _ => none) hMl (Or.inl ⟨rfl, rfl⟩)) hMl rfl rfl dJ2_add_2_7 rfl (Nat.le_of_ble_eq_true rfl) ⟨Nat.le_of_ble_eq_true rfl, Nat.le_of_ble_eq_true rfl⟩ ⟨Nat.le_of_ble_eq_true rfl, Nat.le_of_ble_eq_true rfl, Nat.le_of_ble_eq_true rfl, Nat.le_of_ble_eq_true rfl⟩ (zw_kr fun r M1 h => ?_) zw_kn
    obtain ⟨q, cap2, g, rfl, hq, hg1, hg2, hg3, eP⟩ := h
    have hql : l ≠ q := zw_nn hMl hq
    refine zw_astore_n (lv' := [some (.ref l), some (.ref x), some (.ref q), some (.int (nI 0))]) (pc' := 11) K dJ2_add_2_10 rfl (by decide) rfl rfl ?_
    exact step _ _ q cap2 g _ none (by decide) (by decide) (by rw [eP]; exact zw_us) (by rw [eP]; exact zw_un' (Ne.symm hql) zw_us) hg1 hg2 (fun i hi => absurd hi (by omega)) (by cases z : M0 q with | none => rfl | some e => rw [hO.2.2.1 q e (Ne.symm hql) z] at hq; cases hq) (fun a e ha he => by rw [eP, zw_un ha]; have z := hO.2.2.1 a e ha he; exact zw_un' (zw_nn z hq) z)
  · rcases Nat.lt_or_ge n cap with hlt | hge
    · refine zw_iload_n (x := nI n) (pc' := 1) K dJ2_add_2_0 rfl rfl ?_
      refine zw_aload_n (v := .ref arr) (pc' := 2) K dJ2_add_2_1 rfl rfl rfl ?_
      refine zw_alen (t0 := 3) (v := nI cap) (pc' := 3) K hA rfl rfl dJ2_add_2_2 rfl ?_
      refine zw_icmp_ne (tgt := 11) (pc' := 6) K dJ2_add_2_3 (by decide) rfl (fun c3 => ?_) (fun c3 => by exact absurd ((nI_eq (by omega) (by omega)).mp c3) (by omega))
      exact step _ _ arr cap f _ none (by decide) (by decide) hMl hA hlt hc2 hf h0 hO.2.2.1
    · obtain rfl : cap = n := by omega
      refine zw_iload_n (x := nI cap) (pc' := 1) K dJ2_add_2_0 rfl rfl ?_
      refine zw_aload_n (v := .ref arr) (pc' := 2) K dJ2_add_2_1 rfl rfl rfl ?_
      refine zw_alen (t0 := 3) (v := nI cap) (pc' := 3) K hA rfl rfl dJ2_add_2_2 rfl ?_
      refine zw_icmp_ne (tgt := 11) (pc' := 6) K dJ2_add_2_3 (by decide) rfl (fun c3 => by exact absurd rfl c3) (fun c3 => ?_)
      refine zw_aload_n (v := .ref l) (pc' := 7) K dJ2_add_2_6 rfl rfl rfl ?_
      refine zc_J2_129 (rest := []) (c' := 1) (n' := 64) (pc' := 10) K (ct_J2_grow hl M l cap hMl (Or.inr ⟨hn, by omega, hA, fun i hi => ⟨el i, hf i hi, (zlk.keep hO (hel i hi)).1⟩⟩)) hMl rfl rfl dJ2_add_2_7 rfl (Nat.le_of_ble_eq_true rfl) ⟨Nat.le_of_ble_eq_true rfl, Nat.le_of_ble_eq_true rfl⟩ ⟨Nat.le_of_ble_eq_true rfl, Nat.le_of_ble_eq_true rfl, Nat.le_of_ble_eq_true rfl, Nat.le_of_ble_eq_true rfl⟩ (zw_kr fun r M1 h => ?_) zw_kn
      obtain ⟨q, cap2, g, rfl, hq, hg1, hg2, hg3, eP⟩ := h
      have hql : l ≠ q := zw_nn hMl hq
      refine zw_astore_n (lv' := [some (.ref l), some (.ref x), some (.ref q), some (.int (nI cap))]) (pc' := 11) K dJ2_add_2_10 rfl (by decide) rfl rfl ?_
      exact step _ _ q cap2 g _ none (by decide) (by decide) (by rw [eP]; exact zw_us) (by rw [eP]; exact zw_un' (Ne.symm hql) zw_us) hg1 hg2 (fun i hi => (hg3 i hi).trans (hf i hi)) (by cases z : M0 q with | none => rfl | some e => rw [hO.2.2.1 q e (Ne.symm hql) z] at hq; cases hq) (fun a e ha he => by rw [eP, zw_un ha]; have z := hO.2.2.1 a e ha he; exact zw_un' (zw_nn z hq) z)
set_option maxHeartbeats 2000000 in
theorem ct_J2_add {w : zw_W} {la : Launch} (hl : la.stackTraces = false) (M : zw_M) (l n x : Nat) {el : Nat → Nat} (hM : M l = some (zw_eL n el)) (hn30 : n ≤ 30) (hx : zlk M x) (hel : ∀ i, i < n → zlk M (el i)) : zw_C w la yJ2_add cJ2_add 2 (Option.some Jvm.ClassFile.FieldType.boolean) (zr 7 1 64) [.ref l, .ref x] M (zw_pi fun r M1 => r = 1 ∧ M1 = zw_u M l (zw_eL (n + 1) (zlu el n x))) zw_no := by
  refine zw_enter RJ2 rfl (by decide) hl (by simp [Value.category]) (Nat.le_of_ble_eq_true rfl) (fun X hXl hXw K hE htab hcon => ?_)
  subst hXl; subst hXw
  show zw_Z X _ 0 0 0 [some (.ref l), some (.ref x)] []
  refine zw_opE hM (fun M2 mc arr hO => ?_)
  refine zw_aload_n (v := .ref l) (pc' := 1) K dJ2_add_0 rfl rfl rfl ?_
  refine zw_dup (pc' := 2) K dJ2_add_1 rfl rfl ?_
  refine zg_J2_63 (v := .int mc) (pc' := 5) K hO.1 rfl dJ2_add_2 rfl ?_
  refine zw_iconst (v := 1) (pc' := 6) K dJ2_add_5 (by decide) rfl ?_
  refine zw_iadd (pc' := 7) K dJ2_add_6 rfl ?_
  refine zp_J2_63 (v := .int (mc + 1)) (pc' := 10) K hO.1 rfl rfl (by simp) dJ2_add_7 rfl ?_
  refine zw_nmM (fun M1 eM1 => ?_)
  have f2 : M1 l = some (zw_eC 5 [.int (mc + 1), .ref arr, .int (nI n)]) := by rw [eM1]; exact zw_us
  have hO3 : zlo (zw_Xw X) M l n el M1 (mc + 1) arr := by rw [eM1]; exact hO.mc
  refine zw_aload_n (v := .ref l) (pc' := 11) K dJ2_add_10 rfl rfl rfl ?_
  refine zw_aload_n (v := .ref x) (pc' := 12) K dJ2_add_11 rfl rfl rfl ?_
  refine zw_aload_n (v := .ref l) (pc' := 13) K dJ2_add_12 rfl rfl rfl ?_
  refine zg_J2_9 (v := .ref arr) (pc' := 16) K hO3.1 rfl dJ2_add_13 rfl ?_
  refine zw_aload_n (v := .ref l) (pc' := 17) K dJ2_add_16 rfl rfl rfl ?_
  refine zg_J2_48 (v := .int (nI n)) (pc' := 20) K hO3.1 rfl dJ2_add_17 rfl ?_
  refine zc_J2_131 (rest := []) (c' := 1) (n' := 64) (pc' := 23) K (ct_J2_add_2 hl M M1 l n x hO3 hn30 hx hel) hO3.1 rfl rfl dJ2_add_20 rfl (Nat.le_of_ble_eq_true rfl) ⟨Nat.le_of_ble_eq_true rfl, Nat.le_of_ble_eq_true rfl⟩ ⟨Nat.le_of_ble_eq_true rfl, Nat.le_of_ble_eq_true rfl, Nat.le_of_ble_eq_true rfl, Nat.le_of_ble_eq_true rfl⟩ (zw_kv fun M1 h => ?_) zw_kn
  refine zw_iconst (v := 1) (pc' := 24) K dJ2_add_23 (by decide) rfl ?_
  exact zw_zret K hE rfl dJ2_add_24 ⟨Nat.le_of_ble_eq_true rfl, Nat.le_of_ble_eq_true rfl⟩ (⟨rfl, h⟩)
set_option maxHeartbeats 2000000 in
theorem ct_J17_equals {w : zw_W} {l : Launch} (hl : l.stackTraces = false) (M : zw_M) (a b : Nat) : zw_C w l yJ17_equals cJ17_equals 2 (Option.some Jvm.ClassFile.FieldType.boolean) (zr 1 0 0) [.ref a, .ref b] M (zw_pi fun r M1 => r = zb (b == a) ∧ M1 = M) zw_no := by
  refine zw_enterF RJ17 rfl (by decide +kernel) hl (by simp [Value.category]) (Nat.le_of_ble_eq_true rfl) (fun X hXl hXw K hE => ?_)
  subst hXl; subst hXw
  show zw_Z X _ 0 0 0 [some (.ref a), some (.ref b)] []
  refine zw_aload_n (v := .ref a) (pc' := 1) K dJ17_equals_0 rfl rfl rfl ?_
  refine zw_aload_n (v := .ref b) (pc' := 2) K dJ17_equals_1 rfl rfl rfl ?_
  refine zw_acmp_ne (rx := some a) (ry := some b) (tgt := 9) (pc' := 5) K dJ17_equals_2 (by decide) rfl (fun c2 => ?_) (fun c2 => ?_)
  · refine zw_iconst (v := 0) (pc' := 10) K dJ17_equals_9 (by decide) rfl ?_
    exact zw_zret K hE rfl dJ17_equals_10 ⟨Nat.le_of_ble_eq_true rfl, Nat.le_of_ble_eq_true rfl⟩ (⟨by rw [show (b == a) = false from by simpa using fun z : b = a => c2 (by rw [z])]; rfl, rfl⟩)
  · refine zw_iconst (v := 1) (pc' := 6) K dJ17_equals_5 (by decide) rfl ?_
    refine zw_goto (tgt := 10) K dJ17_equals_6 (by decide) ?_
    exact zw_zret K hE rfl dJ17_equals_10 ⟨Nat.le_of_ble_eq_true rfl, Nat.le_of_ble_eq_true rfl⟩ (⟨by rw [show (b == a) = true from by simpa using (Option.some.inj c2).symm]; rfl, rfl⟩)
/-- is x among the first n of el -/
def zlin (el : Nat → Nat) (x n : Nat) : Bool := zf (fun i b => b || el i == x) n false
/-- what indexOf answers -/
def zlix (el : Nat → Nat) (x n : Nat) (r : Int32) : Prop := (zlin el x n = true ∧ 0 ≤ r) ∨ (zlin el x n = false ∧ r = -1)
theorem zlin_up {el : Nat → Nat} {x i n : Nat} (h : zlin el x i = true) (hn : i ≤ n) : zlin el x n = true := by
  induction n with
  | zero => obtain rfl : i = 0 := (by omega); exact h
  | succ n ih =>
    rcases Nat.lt_or_ge n i with q | q
    · obtain rfl : i = n + 1 := by omega
      exact h
    · show (zlin el x n || el n == x) = true
      rw [ih q]; rfl
theorem zlin_iff {el : Nat → Nat} {x n : Nat} : zlin el x n = true ↔ ∃ i, i < n ∧ el i = x := by
  induction n with
  | zero => exact ⟨fun h => Bool.noConfusion (h : false = true), fun ⟨i, h, _⟩ => absurd h (by omega)⟩
  | succ n ih =>
    show (zlin el x n || el n == x) = true ↔ _
    rw [Bool.or_eq_true, ih]
    constructor
    · rintro (⟨i, h1, h2⟩ | h)
      · exact ⟨i, by omega, h2⟩
      · exact ⟨n, by omega, by simpa using h⟩
    · rintro ⟨i, h1, h2⟩
      rcases Nat.lt_or_ge i n with q | q
      · exact Or.inl ⟨i, q, h2⟩
      · obtain rfl : i = n := by omega
        exact Or.inr (by simpa using h2)
set_option maxHeartbeats 2000000 in
theorem ct_J2_indexOfRange {w : zw_W} {la : Launch} (hl : la.stackTraces = false) (M0 M : zw_M) (l n x : Nat) {el : Nat → Nat} {mc : Int32} {arr : Nat} (hO : zlo w M0 l n el M mc arr) (hn : n < 2 ^ 31) {fs : List Value} (hx : M x = some (zw_eC 1 fs)) : zw_C w la yJ2_indexOfRange cJ2_indexOfRange 6 (Option.some Jvm.ClassFile.FieldType.int) (zr 2 0 0) [.ref l, .ref x, .int 0, .int (nI n)] M (zw_pi fun r M1 => zlix el x n r ∧ M1 = M) zw_no := by
  refine zw_enter RJ2 rfl (by decide) hl (by simp [Value.category]) (Nat.le_of_ble_eq_true rfl) (fun X hXl hXw K hE htab hcon => ?_)
  subst hXl; subst hXw
  show zw_Z X _ 0 0 0 [some (.ref l), some (.ref x), some (.int 0), some (.int (nI n)), none, none] []
  have hMl := hO.1
  refine zw_aload_n (v := .ref l) (pc' := 1) K dJ2_indexOfRange_0 rfl rfl rfl ?_
  refine zg_J2_9 (v := .ref arr) (pc' := 4) K hMl rfl dJ2_indexOfRange_1 rfl ?_
  refine zw_astore (lv' := [some (.ref l), some (.ref x), some (.int 0), some (.int (nI n)), some (.ref arr), none]) (pc' := 6) K dJ2_indexOfRange_4 rfl (by decide) rfl rfl ?_
  refine zw_aload_n (v := .ref x) (pc' := 7) K dJ2_indexOfRange_6 rfl rfl rfl ?_
  refine zw_ifnonnull (r := some x) (tgt := 39) (pc' := 10) K dJ2_indexOfRange_7 (by decide) rfl (fun _ _ => ?_) (fun h => nomatch h)
  refine zw_iload_n (x := 0) (pc' := 40) K dJ2_indexOfRange_39 rfl rfl ?_
  refine zw_istore (lv' := [some (.ref l), some (.ref x), some (.int 0), some (.int (nI n)), some (.ref arr), some (.int 0)]) (pc' := 42) K dJ2_indexOfRange_40 (by decide) rfl rfl ?_
  have L42 : ∀ i : Nat, i ≤ n → ∀ (xi : Int32), xi = nI i → (zlin el x i = false) → zw_Z X M 0 0 42 [some (.ref l), some (.ref x), none, some (.int (nI n)), some (.ref arr), some (.int xi)] [] := by
    refine zl_up (fun i hi42 ih42 => ?_)
    intro xi  hxi hno
    refine zw_iload (x := xi) (pc' := 44) K dJ2_indexOfRange_42 rfl rfl ?_
    refine zw_iload_n (x := nI n) (pc' := 45) K dJ2_indexOfRange_44 rfl rfl ?_
    refine zw_icmp_ge (tgt := 69) (pc' := 48) K dJ2_indexOfRange_45 (by decide) rfl (fun c45 => ?_) (fun c45 => ?_)
    · have hend42 : i = n := zi_ge hxi rfl hi42 hn c45
      refine zw_iconst (v := (-1)) (pc' := 70) K dJ2_indexOfRange_69 (by decide) rfl ?_
      exact zw_iret K hE dJ2_indexOfRange_70 ⟨Nat.le_of_ble_eq_true rfl, Nat.le_of_ble_eq_true rfl⟩ (⟨Or.inr ⟨hend42 ▸ hno, rfl⟩, rfl⟩)
    · have hlt42 : i < n := zi_lt hxi rfl hi42 hn c45
      refine zw_aload_n (v := .ref x) (pc' := 49) K dJ2_indexOfRange_48 rfl rfl rfl ?_
      refine zw_aload (v := .ref arr) (pc' := 51) K dJ2_indexOfRange_49 rfl rfl rfl ?_
      refine zw_iload (x := xi) (pc' := 53) K dJ2_indexOfRange_51 rfl rfl ?_
      subst hxi
      obtain ⟨cap, f, hA, hc1, hc2, hf⟩ : ∃ (cap : Nat) (f : Nat → Option Nat), M arr = some (zw_eO (zw_Xw X) cap f) ∧ n ≤ cap ∧ cap ≤ 64 ∧ ∀ i, i < n → f i = some (el i) := by
        rcases hO.2.2.2 with ⟨z, _⟩ | ⟨_, _, cap, f, z⟩
        · omega
        · exact ⟨cap, f, z⟩
      refine zn_aaldO (j := i) (v := (some (el i))) (pc' := 54) K hA rfl (by omega) (hf i hlt42) dJ2_indexOfRange_53 rfl ?_ (by omega)
      refine zc_J2_93T (rest := []) (c' := 0) (n' := 0) (pc' := 57) K (ct_J17_equals hl M x (el i)) hx rfl rfl dJ2_indexOfRange_54 rfl (Nat.le_of_ble_eq_true rfl) ⟨Nat.le_of_ble_eq_true rfl, Nat.le_of_ble_eq_true rfl⟩ ⟨Nat.le_of_ble_eq_true rfl, Nat.le_of_ble_eq_true rfl, Nat.le_of_ble_eq_true rfl, Nat.le_of_ble_eq_true rfl⟩ (zw_kp ?_) zw_kn
      refine zw_if_eq (tgt := 63) (pc' := 60) K dJ2_indexOfRange_57 (by decide) rfl (fun c57 => ?_) (fun c57 => ?_)
      · have c57 := zb_0.mp c57
        refine zw_iinc (x := (nI i)) (lv' := [some (.ref l), some (.ref x), none, some (.int (nI n)), some (.ref arr), some (.int ((nI i) + 1))]) (pc' := 66) K dJ2_indexOfRange_63 rfl (by decide) rfl rfl ?_
        refine zw_goto (tgt := 42) K dJ2_indexOfRange_66 (by decide) ?_
        exact ih42 hlt42 ((nI i) + 1) (nI_1 i) (by show (zlin el x i || el i == x) = false; rw [hno]; exact c57)
      · have c57 := zb_nz.mp c57
        refine zw_iload (x := (nI i)) (pc' := 62) K dJ2_indexOfRange_60 rfl rfl ?_
        exact zw_iret K hE dJ2_indexOfRange_62 ⟨Nat.le_of_ble_eq_true rfl, Nat.le_of_ble_eq_true rfl⟩ (⟨Or.inl ⟨zlin_up (i := i + 1) (by show (zlin el x i || el i == x) = true; rw [c57, Bool.or_true]) (by omega), nI_pos' (by omega)⟩, rfl⟩)
  refine zw_weakL (lv' := [some (.ref l), some (.ref x), none, some (.int (nI n)), some (.ref arr), some (.int 0)]) (by simp [zw_le]) ?_
  exact L42 0 (Nat.zero_le _) 0 rfl rfl
set_option maxHeartbeats 2000000 in
theorem ct_J2_indexOf {w : zw_W} {la : Launch} (hl : la.stackTraces = false) (M0 M : zw_M) (l n x : Nat) {el : Nat → Nat} {mc : Int32} {arr : Nat} (hO : zlo w M0 l n el M mc arr) (hn : n < 2 ^ 31) {fs : List Value} (hx : M x = some (zw_eC 1 fs)) : zw_C w la yJ2_indexOf cJ2_indexOf 2 (Option.some Jvm.ClassFile.FieldType.int) (zr 3 0 0) [.ref l, .ref x] M (zw_pi fun r M1 => zlix el x n r ∧ M1 = M) zw_no := by
  refine zw_enter RJ2 rfl (by decide) hl (by simp [Value.category]) (Nat.le_of_ble_eq_true rfl) (fun X hXl hXw K hE htab hcon => ?_)
  subst hXl; subst hXw
  show zw_Z X _ 0 0 0 [some (.ref l), some (.ref x)] []
  refine zw_aload_n (v := .ref l) (pc' := 1) K dJ2_indexOf_0 rfl rfl rfl ?_
  refine zw_aload_n (v := .ref x) (pc' := 2) K dJ2_indexOf_1 rfl rfl rfl ?_
  refine zw_iconst (v := 0) (pc' := 3) K dJ2_indexOf_2 (by decide) rfl ?_
  refine zw_aload_n (v := .ref l) (pc' := 4) K dJ2_indexOf_3 rfl rfl rfl ?_
  refine zg_J2_48 (v := .int (nI n)) (pc' := 7) K hO.1 rfl dJ2_indexOf_4 rfl ?_
  refine zc_J2_89 (rest := []) (c' := 0) (n' := 0) (pc' := 10) K (ct_J2_indexOfRange hl M0 M l n x hO hn hx) hO.1 rfl rfl dJ2_indexOf_7 rfl (Nat.le_of_ble_eq_true rfl) ⟨Nat.le_of_ble_eq_true rfl, Nat.le_of_ble_eq_true rfl⟩ ⟨Nat.le_of_ble_eq_true rfl, Nat.le_of_ble_eq_true rfl, Nat.le_of_ble_eq_true rfl, Nat.le_of_ble_eq_true rfl⟩ (zw_ki fun r M1 h => ?_) zw_kn
  exact zw_iret K hE dJ2_indexOf_10 ⟨Nat.le_of_ble_eq_true rfl, Nat.le_of_ble_eq_true rfl⟩ h
set_option maxHeartbeats 2000000 in
theorem ct_J2_contains {w : zw_W} {la : Launch} (hl : la.stackTraces = false) (M : zw_M) (l n x : Nat) {el : Nat → Nat} (hM : M l = some (zw_eL n el)) (hn : n < 2 ^ 31) {fs : List Value} (hx : M x = some (zw_eC 1 fs)) : zw_C w la yJ2_contains cJ2_contains 2 (Option.some Jvm.ClassFile.FieldType.boolean) (zr 4 0 0) [.ref l, .ref x] M (zw_pi fun r M1 => r = zb (zlin el x n) ∧ M1 = M) zw_no := by
  refine zw_enter RJ2 rfl (by decide) hl (by simp [Value.category]) (Nat.le_of_ble_eq_true rfl) (fun X hXl hXw K hE htab hcon => ?_)
  subst hXl; subst hXw
  show zw_Z X _ 0 0 0 [some (.ref l), some (.ref x)] []
  refine zw_opE hM (fun M2 mc arr hO => ?_)
  refine zw_aload_n (v := .ref l) (pc' := 1) K dJ2_contains_0 rfl rfl rfl ?_
  refine zw_aload_n (v := .ref x) (pc' := 2) K dJ2_contains_1 rfl rfl rfl ?_
  refine zc_J2_85 (rest := []) (c' := 0) (n' := 0) (pc' := 5) K (ct_J2_indexOf hl M M2 l n x hO hn (hO.2.2.1 x _ (zw_ne hx hM (by simp)) hx)) hO.1 rfl rfl dJ2_contains_2 rfl (Nat.le_of_ble_eq_true rfl) ⟨Nat.le_of_ble_eq_true rfl, Nat.le_of_ble_eq_true rfl⟩ ⟨Nat.le_of_ble_eq_true rfl, Nat.le_of_ble_eq_true rfl, Nat.le_of_ble_eq_true rfl, Nat.le_of_ble_eq_true rfl⟩ (zw_ki fun r M1 h => ?_) zw_kn
  obtain ⟨h, rfl⟩ := h
  refine zw_if_lt (tgt := 12) (pc' := 8) K dJ2_contains_5 (by decide) rfl (fun c5 => ?_) (fun c5 => ?_)
  · refine zw_iconst (v := 0) (pc' := 13) K dJ2_contains_12 (by decide) rfl ?_
    refine zw_clE hO ?_
    exact zw_zret K hE rfl dJ2_contains_13 ⟨Nat.le_of_ble_eq_true rfl, Nat.le_of_ble_eq_true rfl⟩ (⟨by rcases h with ⟨z, z2⟩ | ⟨z, z2⟩; exact absurd c5 (Int32.not_lt.mpr z2); rw [z]; rfl, rfl⟩)
  · refine zw_iconst (v := 1) (pc' := 9) K dJ2_contains_8 (by decide) rfl ?_
    refine zw_goto (tgt := 13) K dJ2_contains_9 (by decide) ?_
    refine zw_clE hO ?_
    exact zw_zret K hE rfl dJ2_contains_13 ⟨Nat.le_of_ble_eq_true rfl, Nat.le_of_ble_eq_true rfl⟩ (⟨by rcases h with ⟨z, z2⟩ | ⟨z, z2⟩; rw [z]; rfl; rw [z2] at c5; exact absurd (by decide) c5, rfl⟩)
