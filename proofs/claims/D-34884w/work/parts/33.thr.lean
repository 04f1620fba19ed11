/-! what CartelWatch throws: in, bidder, at, must, belongs, pair -/
set_option maxRecDepth 100000
theorem zh_A : ∀ q ∈ vx_atS "CartelWatch" 47 "java/lang/IllegalArgumentException" ["java/lang/RuntimeException", "java/lang/Exception"], q ∈ lw_tbl ∧ (goodWord q || zw_nw q) = true := by decide +kernel
theorem zh_B : ∀ q ∈ vx_atS "CartelWatch" 69 "java/lang/IndexOutOfBoundsException" ["java/lang/RuntimeException", "java/lang/Exception"], q ∈ lw_tbl ∧ (goodWord q || zw_nw q) = true := by decide +kernel
theorem zh_S : ∀ q ∈ vx_atS "CartelWatch" 74 "java/lang/IllegalStateException" ["java/lang/RuntimeException", "java/lang/Exception"], q ∈ lw_tbl ∧ (goodWord q || zw_nw q) = true := by decide +kernel
/-- least ≤ x ≤ most -/
def zrg (x lo hi : Int32) : Bool := decide (lo ≤ x) && decide (x ≤ hi)
set_option maxHeartbeats 2000000 in
theorem ct_X1_in {w : zw_W} {la : Launch} (hl : la.stackTraces = false) (M : zw_M) (x lo hi : Int32) : zw_C w la yX1_in cX1_in 3 (Option.some Jvm.ClassFile.FieldType.int) (zr 6 1 6) [.int x, .int lo, .int hi] M (zw_pi fun r M1 => r = x ∧ zrg x lo hi = true ∧ M1 = M) (fun E M1 => E = "java/lang/IllegalArgumentException" ∧ zrg x lo hi = false ∧ M1 = M) := by
  refine zw_enter RX1 rfl (by decide) hl (by simp [Value.category]) (Nat.le_of_ble_eq_true rfl) (fun X hXl hXw K hE htab hcon => ?_)
  subst hXl; subst hXw
  show zw_Z X _ 0 0 0 [some (.int x), some (.int lo), some (.int hi)] []
  refine zw_iload_n (x := x) (pc' := 1) K dX1_in_0 rfl rfl ?_
  refine zw_iload_n (x := lo) (pc' := 2) K dX1_in_1 rfl rfl ?_
  refine zw_icmp_lt (tgt := 10) (pc' := 5) K dX1_in_2 (by decide) rfl (fun c2 => ?_) (fun c2 => ?_)
  · exact zw_throw (cls := "java/lang/IllegalArgumentException") (names := ["java/lang/RuntimeException", "java/lang/Exception"]) (i := 0) K hE htab rfl (by decide +kernel) (by decide +kernel) q408 q41 rfl zh_A dX1_in_10 dX1_in_13 dX1_in_14 dX1_in_16 dX1_in_19 (Nat.le_of_ble_eq_true rfl) (Nat.le_of_ble_eq_true rfl) (Nat.le_of_ble_eq_true rfl) (Nat.le_of_ble_eq_true rfl) ⟨Nat.le_of_ble_eq_true rfl, Nat.le_of_ble_eq_true rfl⟩ (⟨rfl, by simp [zrg, Int32.not_le.mpr c2], rfl⟩)
  · refine zw_iload_n (x := x) (pc' := 6) K dX1_in_5 rfl rfl ?_
    refine zw_iload_n (x := hi) (pc' := 7) K dX1_in_6 rfl rfl ?_
    refine zw_icmp_le (tgt := 20) (pc' := 10) K dX1_in_7 (by decide) rfl (fun c7 => ?_) (fun c7 => ?_)
    · refine zw_iload_n (x := x) (pc' := 21) K dX1_in_20 rfl rfl ?_
      exact zw_iret K hE dX1_in_21 ⟨Nat.le_of_ble_eq_true rfl, Nat.le_of_ble_eq_true rfl⟩ (⟨rfl, by simp [zrg, Int32.not_lt.mp c2, c7], rfl⟩)
    · exact zw_throw (cls := "java/lang/IllegalArgumentException") (names := ["java/lang/RuntimeException", "java/lang/Exception"]) (i := 0) K hE htab rfl (by decide +kernel) (by decide +kernel) q408 q41 rfl zh_A dX1_in_10 dX1_in_13 dX1_in_14 dX1_in_16 dX1_in_19 (Nat.le_of_ble_eq_true rfl) (Nat.le_of_ble_eq_true rfl) (Nat.le_of_ble_eq_true rfl) (Nat.le_of_ble_eq_true rfl) ⟨Nat.le_of_ble_eq_true rfl, Nat.le_of_ble_eq_true rfl⟩ (⟨rfl, by simp [zrg, c7], rfl⟩)
set_option maxHeartbeats 2000000 in
theorem ct_X1_bidder {w : zw_W} {la : Launch} (hl : la.stackTraces = false) (M : zw_M) (x : Int32) : zw_C w la yX1_bidder cX1_bidder 1 (Option.some Jvm.ClassFile.FieldType.int) (zr 7 1 6) [.int x] M (zw_pi fun r M1 => r = x ∧ zin x 7 = true ∧ M1 = M) (fun E M1 => E = "java/lang/IllegalArgumentException" ∧ zin x 7 = false ∧ M1 = M) := by
  refine zw_enter RX1 rfl (by decide) hl (by simp [Value.category]) (Nat.le_of_ble_eq_true rfl) (fun X hXl hXw K hE htab hcon => ?_)
  subst hXl; subst hXw
  show zw_Z X _ 0 0 0 [some (.int x)] []
  refine zw_iload_n (x := x) (pc' := 1) K dX1_bidder_0 rfl rfl ?_
  refine zw_iconst (v := 0) (pc' := 2) K dX1_bidder_1 (by decide) rfl ?_
  refine zw_bipush (v := 6) (pc' := 4) K dX1_bidder_2 (by decide) rfl ?_
  refine zc_X1_50 (rest := []) (c' := 1) (n' := 6) (pc' := 7) K (ct_X1_in hl M x 0 6) rfl rfl dX1_bidder_4 rfl (Nat.le_of_ble_eq_true rfl) ⟨Nat.le_of_ble_eq_true rfl, Nat.le_of_ble_eq_true rfl⟩ ⟨Nat.le_of_ble_eq_true rfl, Nat.le_of_ble_eq_true rfl, Nat.le_of_ble_eq_true rfl, Nat.le_of_ble_eq_true rfl⟩ (zw_ki fun r M1 h => ?_) (fun E M1 h => ?_)
  · obtain ⟨hr, h, hM⟩ := h
    have hM := hM.symm
    have hr := hr.symm
    have hM := hM.symm
    have hr := hr.symm
    subst hr; subst hM
    exact zw_iret K hE dX1_bidder_7 ⟨Nat.le_of_ble_eq_true rfl, Nat.le_of_ble_eq_true rfl⟩ (⟨rfl, by rw [zin_7]; exact h, rfl⟩)
  · obtain ⟨h0, h, hM⟩ := h
    have hM := hM.symm
    subst h0; subst hM
    exact zw_out K hE htab ⟨Nat.le_of_ble_eq_true rfl, Nat.le_of_ble_eq_true rfl⟩ (⟨rfl, by rw [zin_7]; exact h, rfl⟩)
set_option maxHeartbeats 2000000 in
theorem ct_X1_must {w : zw_W} {la : Launch} (hl : la.stackTraces = false) (M : zw_M) (b : Bool) : zw_C w la yX1_must cX1_must 1 (Option.none : Option Jvm.ClassFile.FieldType) (zr 6 1 6) [.int (zb b)] M (zw_pv fun M1 => b = true ∧ M1 = M) (fun E M1 => E = "java/lang/IllegalStateException" ∧ b = false ∧ M1 = M) := by
  refine zw_enter RX1 rfl (by decide) hl (by simp [Value.category]) (Nat.le_of_ble_eq_true rfl) (fun X hXl hXw K hE htab hcon => ?_)
  subst hXl; subst hXw
  show zw_Z X _ 0 0 0 [some (.int (zb b))] []
  refine zw_iload_n (x := zb b) (pc' := 1) K dX1_must_0 rfl rfl ?_
  refine zw_if_ne (tgt := 14) (pc' := 4) K dX1_must_1 (by decide) rfl (fun c1 => ?_) (fun c1 => ?_)
  · have c1 := zb_nz.mp c1
    exact zw_vret K hE dX1_must_14 ⟨Nat.le_of_ble_eq_true rfl, Nat.le_of_ble_eq_true rfl⟩ (⟨c1, rfl⟩)
  · have c1 := zb_0.mp c1
    exact zw_throw (cls := "java/lang/IllegalStateException") (names := ["java/lang/RuntimeException", "java/lang/Exception"]) (i := 3) K hE htab rfl (by decide +kernel) (by decide +kernel) q198 q30 rfl zh_S dX1_must_4 dX1_must_7 dX1_must_8 dX1_must_10 dX1_must_13 (Nat.le_of_ble_eq_true rfl) (Nat.le_of_ble_eq_true rfl) (Nat.le_of_ble_eq_true rfl) (Nat.le_of_ble_eq_true rfl) ⟨Nat.le_of_ble_eq_true rfl, Nat.le_of_ble_eq_true rfl⟩ (⟨rfl, c1, rfl⟩)
set_option maxHeartbeats 2000000 in
theorem ct_X1_at {w : zw_W} {la : Launch} (hl : la.stackTraces = false) (M : zw_M) (l n : Nat) {el : Nat → Nat} (x : Int32) (hL : M l = some (zw_eL n el)) (hn : n < 2 ^ 30) : zw_C w la yX1_at cX1_at 2 (Option.some (Jvm.ClassFile.FieldType.object "java/lang/Object")) (zr 6 1 6) [.ref l, .int x] M (zw_pr fun r M1 => r = some (el (zx x)) ∧ zin x n = true ∧ M1 = M) (fun E M1 => E = "java/lang/IndexOutOfBoundsException" ∧ zin x n = false ∧ M1 = M) := by
  refine zw_enter RX1 rfl (by decide) hl (by simp [Value.category]) (Nat.le_of_ble_eq_true rfl) (fun X hXl hXw K hE htab hcon => ?_)
  subst hXl; subst hXw
  show zw_Z X _ 0 0 0 [some (.ref l), some (.int x)] []
  refine zw_iload_n (x := x) (pc' := 1) K dX1_at_0 rfl rfl ?_
  refine zw_if_lt (tgt := 14) (pc' := 4) K dX1_at_1 (by decide) rfl (fun c1 => ?_) (fun c1 => ?_)
  · exact zw_throw (cls := "java/lang/IndexOutOfBoundsException") (names := ["java/lang/RuntimeException", "java/lang/Exception"]) (i := 2) K hE htab rfl (by decide +kernel) (by decide +kernel) q389 q36 rfl zh_B dX1_at_14 dX1_at_17 dX1_at_18 dX1_at_20 dX1_at_23 (Nat.le_of_ble_eq_true rfl) (Nat.le_of_ble_eq_true rfl) (Nat.le_of_ble_eq_true rfl) (Nat.le_of_ble_eq_true rfl) ⟨Nat.le_of_ble_eq_true rfl, Nat.le_of_ble_eq_true rfl⟩ (⟨rfl, by simp [zin, Int32.not_le.mpr c1], rfl⟩)
  · refine zw_iload_n (x := x) (pc' := 5) K dX1_at_4 rfl rfl ?_
    refine zw_aload_n (v := .ref l) (pc' := 6) K dX1_at_5 rfl rfl rfl ?_
    refine zc_X1_1 (rest := [.int x]) (c' := 0) (n' := 0) (pc' := 11) K (ct_J2_size hl M l hL) hL rfl rfl dX1_at_6 rfl (Nat.le_of_ble_eq_true rfl) ⟨Nat.le_of_ble_eq_true rfl, Nat.le_of_ble_eq_true rfl⟩ ⟨Nat.le_of_ble_eq_true rfl, Nat.le_of_ble_eq_true rfl, Nat.le_of_ble_eq_true rfl, Nat.le_of_ble_eq_true rfl⟩ (zw_kp ?_) zw_kn
    refine zw_icmp_lt (tgt := 24) (pc' := 14) K dX1_at_11 (by decide) rfl (fun c11 => ?_) (fun c11 => ?_)
    · have hz : zin x n = true := by simp [zin, c11, Int32.not_lt.mp c1]
      obtain ⟨j, hj, rfl⟩ := zin_of hz (by omega)
      refine zw_aload_n (v := .ref l) (pc' := 25) K dX1_at_24 rfl rfl rfl ?_
      refine zw_iload_n (x := (nI j)) (pc' := 26) K dX1_at_25 rfl rfl ?_
      refine zc_X1_7 (rest := []) (c' := 0) (n' := 0) (pc' := 31) K (ct_J2_get hl M l j hL hj) hL rfl rfl dX1_at_26 rfl (Nat.le_of_ble_eq_true rfl) ⟨Nat.le_of_ble_eq_true rfl, Nat.le_of_ble_eq_true rfl⟩ ⟨Nat.le_of_ble_eq_true rfl, Nat.le_of_ble_eq_true rfl, Nat.le_of_ble_eq_true rfl, Nat.le_of_ble_eq_true rfl⟩ (zw_kpr ?_) zw_kn
      exact zw_aret (r := some (el j)) K hE (Or.inl ⟨_, rfl⟩) dX1_at_31 ⟨Nat.le_of_ble_eq_true rfl, Nat.le_of_ble_eq_true rfl⟩ (⟨by rw [zx_n (by omega)], hz, rfl⟩)
    · exact zw_throw (cls := "java/lang/IndexOutOfBoundsException") (names := ["java/lang/RuntimeException", "java/lang/Exception"]) (i := 2) K hE htab rfl (by decide +kernel) (by decide +kernel) q389 q36 rfl zh_B dX1_at_14 dX1_at_17 dX1_at_18 dX1_at_20 dX1_at_23 (Nat.le_of_ble_eq_true rfl) (Nat.le_of_ble_eq_true rfl) (Nat.le_of_ble_eq_true rfl) (Nat.le_of_ble_eq_true rfl) ⟨Nat.le_of_ble_eq_true rfl, Nat.le_of_ble_eq_true rfl⟩ (⟨rfl, by simp [zin, c11], rfl⟩)
set_option maxHeartbeats 2000000 in
theorem ct_X1_belongs {w : zw_W} {la : Launch} (hl : la.stackTraces = false) (M : zw_M) (a : Nat) (x : Int32) {p ms ts tl fi : Nat} {fst cl lo hi : Int32} (hA : M a = some (zw_eC 4 [.ref p, .ref ms, .ref ts, .ref tl, .ref fi, .int fst, .int cl])) (hp : M p = some (zw_eC 3 [.int lo, .int hi])) : zw_C w la yX1_belongs cX1_belongs 2 (Option.none : Option Jvm.ClassFile.FieldType) (zr 6 1 6) [.ref a, .int x] M (zw_pv fun M1 => (x == lo || x == hi) = true ∧ M1 = M) (fun E M1 => E = "java/lang/IllegalArgumentException" ∧ (x == lo || x == hi) = false ∧ M1 = M) := by
  refine zw_enter RX1 rfl (by decide) hl (by simp [Value.category]) (Nat.le_of_ble_eq_true rfl) (fun X hXl hXw K hE htab hcon => ?_)
  subst hXl; subst hXw
  show zw_Z X _ 0 0 0 [some (.ref a), some (.int x)] []
  refine zw_aload_n (v := .ref a) (pc' := 1) K dX1_belongs_0 rfl rfl rfl ?_
  refine zg_X1_184 (v := .ref p) (pc' := 4) K hA rfl dX1_belongs_1 rfl ?_
  refine zw_iload_n (x := x) (pc' := 5) K dX1_belongs_4 rfl rfl ?_
  refine zc_X1_143 (rest := []) (c' := 0) (n' := 0) (pc' := 8) K (ct_X5_has hl M p lo hi x hp) hp rfl rfl dX1_belongs_5 rfl (Nat.le_of_ble_eq_true rfl) ⟨Nat.le_of_ble_eq_true rfl, Nat.le_of_ble_eq_true rfl⟩ ⟨Nat.le_of_ble_eq_true rfl, Nat.le_of_ble_eq_true rfl, Nat.le_of_ble_eq_true rfl, Nat.le_of_ble_eq_true rfl⟩ (zw_kp ?_) zw_kn
  refine zw_if_ne (tgt := 21) (pc' := 11) K dX1_belongs_8 (by decide) rfl (fun c8 => ?_) (fun c8 => ?_)
  · have c8 := zb_nz.mp c8
    exact zw_vret K hE dX1_belongs_21 ⟨Nat.le_of_ble_eq_true rfl, Nat.le_of_ble_eq_true rfl⟩ (⟨c8, rfl⟩)
  · have c8 := zb_0.mp c8
    exact zw_throw (cls := "java/lang/IllegalArgumentException") (names := ["java/lang/RuntimeException", "java/lang/Exception"]) (i := 5) K hE htab rfl (by decide +kernel) (by decide +kernel) q408 q41 rfl zh_A dX1_belongs_11 dX1_belongs_14 dX1_belongs_15 dX1_belongs_17 dX1_belongs_20 (Nat.le_of_ble_eq_true rfl) (Nat.le_of_ble_eq_true rfl) (Nat.le_of_ble_eq_true rfl) (Nat.le_of_ble_eq_true rfl) ⟨Nat.le_of_ble_eq_true rfl, Nat.le_of_ble_eq_true rfl⟩ (⟨rfl, c8, rfl⟩)
set_option maxHeartbeats 2000000 in
theorem ct_X1_pair {w : zw_W} {la : Launch} (hl : la.stackTraces = false) (M : zw_M) (x y : Int32) : zw_C w la yX1_pair cX1_pair 2 (Option.some (Jvm.ClassFile.FieldType.object "CartelWatch$Pair")) (zr 8 3 18) [.int x, .int y] M (zw_pr fun r M1 => zpair x y = true ∧ ∃ q : Nat, r = some q ∧ M q = none ∧ M1 = zw_u M q (zw_eC 3 [.int (zs_min x y), .int (zs_max x y)])) (fun E M1 => E = "java/lang/IllegalArgumentException" ∧ zpair x y = false ∧ M1 = M) := by
  refine zw_enter RX1 rfl (by decide) hl (by simp [Value.category]) (Nat.le_of_ble_eq_true rfl) (fun X hXl hXw K hE htab hcon => ?_)
  subst hXl; subst hXw
  show zw_Z X _ 0 0 0 [some (.int x), some (.int y)] []
  refine zw_iload_n (x := x) (pc' := 1) K dX1_pair_0 rfl rfl ?_
  refine zc_X1_54 (rest := []) (c' := 1) (n' := 6) (pc' := 4) K (ct_X1_bidder hl M x) rfl rfl dX1_pair_1 rfl (Nat.le_of_ble_eq_true rfl) ⟨Nat.le_of_ble_eq_true rfl, Nat.le_of_ble_eq_true rfl⟩ ⟨Nat.le_of_ble_eq_true rfl, Nat.le_of_ble_eq_true rfl, Nat.le_of_ble_eq_true rfl, Nat.le_of_ble_eq_true rfl⟩ (zw_ki fun r M1 h => ?_) (fun E M1 h => ?_)
  · obtain ⟨hr, h1, hM⟩ := h
    have hM := hM.symm
    have hr := hr.symm
    subst hr; subst hM
    refine zw_pop (pc' := 5) K dX1_pair_4 rfl rfl ?_
    refine zw_iload_n (x := y) (pc' := 6) K dX1_pair_5 rfl rfl ?_
    refine zc_X1_54 (rest := []) (c' := 2) (n' := 12) (pc' := 9) K (ct_X1_bidder hl M y) rfl rfl dX1_pair_6 rfl (Nat.le_of_ble_eq_true rfl) ⟨Nat.le_of_ble_eq_true rfl, Nat.le_of_ble_eq_true rfl⟩ ⟨Nat.le_of_ble_eq_true rfl, Nat.le_of_ble_eq_true rfl, Nat.le_of_ble_eq_true rfl, Nat.le_of_ble_eq_true rfl⟩ (zw_ki fun r M1 h => ?_) (fun E M1 h => ?_)
    · obtain ⟨hr, h2, hM⟩ := h
      have hM := hM.symm
      have hr := hr.symm
      subst hr; subst hM
      refine zw_pop (pc' := 10) K dX1_pair_9 rfl rfl ?_
      refine zw_iload_n (x := x) (pc' := 11) K dX1_pair_10 rfl rfl ?_
      refine zw_iload_n (x := y) (pc' := 12) K dX1_pair_11 rfl rfl ?_
      refine zw_icmp_ne (tgt := 25) (pc' := 15) K dX1_pair_12 (by decide) rfl (fun c12 => ?_) (fun c12 => ?_)
      · refine zw_new (c' := 3) (n' := 14) (pc' := 28) (fs := [.int 0, .int 0]) K in_X5 (ci := 3) rfl tyX5 tyX5_ok q98 q99 q43 (by decide +kernel) ⟨Nat.le_of_ble_eq_true rfl, Nat.le_of_ble_eq_true rfl, Nat.le_of_ble_eq_true rfl, Nat.le_of_ble_eq_true rfl⟩ dX1_pair_25 rfl (fun q hq => ?_)
        refine zw_nmM (fun M31 eM31 => ?_)
        have f32 : M31 q = some (zw_eC 3 [.int 0, .int 0]) := by rw [eM31]; exact zw_us
        refine zw_dup (pc' := 29) K dX1_pair_28 rfl rfl ?_
        refine zw_iload_n (x := x) (pc' := 30) K dX1_pair_29 rfl rfl ?_
        refine zw_iload_n (x := y) (pc' := 31) K dX1_pair_30 rfl rfl ?_
        refine zc_X1_62 (rest := [.ref q]) (c' := 3) (n' := 14) (pc' := 34) K (ct_X5_init hl M31 q x y f32) rfl rfl dX1_pair_31 rfl (Nat.le_of_ble_eq_true rfl) ⟨Nat.le_of_ble_eq_true rfl, Nat.le_of_ble_eq_true rfl⟩ ⟨Nat.le_of_ble_eq_true rfl, Nat.le_of_ble_eq_true rfl, Nat.le_of_ble_eq_true rfl, Nat.le_of_ble_eq_true rfl⟩ (zw_kv fun M1 h => ?_) zw_kn
        exact zw_aret (r := some q) K hE (Or.inl ⟨_, rfl⟩) dX1_pair_34 ⟨Nat.le_of_ble_eq_true rfl, Nat.le_of_ble_eq_true rfl⟩ (⟨by simp [zpair, h1, h2, c12], q, rfl, hq, by rw [show M1 = _ from h, eM31, zw_uu]⟩)
      · exact zw_throw (cls := "java/lang/IllegalArgumentException") (names := ["java/lang/RuntimeException", "java/lang/Exception"]) (i := 1) K hE htab rfl (by decide +kernel) (by decide +kernel) q408 q41 rfl zh_A dX1_pair_15 dX1_pair_18 dX1_pair_19 dX1_pair_21 dX1_pair_24 (Nat.le_of_ble_eq_true rfl) (Nat.le_of_ble_eq_true rfl) (Nat.le_of_ble_eq_true rfl) (Nat.le_of_ble_eq_true rfl) ⟨Nat.le_of_ble_eq_true rfl, Nat.le_of_ble_eq_true rfl⟩ (⟨rfl, by simp [zpair, c12], rfl⟩)
    · obtain ⟨h0, h, hM⟩ := h
      have hM := hM.symm
      subst h0; subst hM
      exact zw_out K hE htab ⟨Nat.le_of_ble_eq_true rfl, Nat.le_of_ble_eq_true rfl⟩ (⟨rfl, by simp [zpair, h], rfl⟩)
  · obtain ⟨h0, h, hM⟩ := h
    have hM := hM.symm
    subst h0; subst hM
    exact zw_out K hE htab ⟨Nat.le_of_ble_eq_true rfl, Nat.le_of_ble_eq_true rfl⟩ (⟨rfl, by simp [zpair, h], rfl⟩)
