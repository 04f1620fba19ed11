/-! CartelWatchModel, its small methods -/
set_option maxRecDepth 100000
set_option maxHeartbeats 2000000 in
theorem ct_X2_in {w : zw_W} {l : Launch} (hl : l.stackTraces = false) (M : zw_M) (x lo hi : Int32) : zw_C w l yX2_in cX2_in 3 (Option.some Jvm.ClassFile.FieldType.boolean) (zr 1 0 0) [.int x, .int lo, .int hi] M (zw_pi fun r M1 => r = zb (decide (lo ≤ x) && decide (x ≤ hi)) ∧ M1 = M) zw_no := by
  refine zw_enter RX2 rfl (by decide) hl (by simp [Value.category]) (Nat.le_of_ble_eq_true rfl) (fun X hXl hXw K hE htab hcon => ?_)
  subst hXl; subst hXw
  show zw_Z X _ 0 0 0 [some (.int x), some (.int lo), some (.int hi)] []
  refine zw_iload_n (x := x) (pc' := 1) K dX2_in_0 rfl rfl ?_
  refine zw_iload_n (x := lo) (pc' := 2) K dX2_in_1 rfl rfl ?_
  refine zw_icmp_lt (tgt := 14) (pc' := 5) K dX2_in_2 (by decide) rfl (fun c2 => ?_) (fun c2 => ?_)
  · refine zw_iconst (v := 0) (pc' := 15) K dX2_in_14 (by decide) rfl ?_
    exact zw_zret K hE rfl dX2_in_15 ⟨Nat.le_of_ble_eq_true rfl, Nat.le_of_ble_eq_true rfl⟩ (⟨by simp [zb, Int32.not_le.mpr c2], rfl⟩)
  · refine zw_iload_n (x := x) (pc' := 6) K dX2_in_5 rfl rfl ?_
    refine zw_iload_n (x := hi) (pc' := 7) K dX2_in_6 rfl rfl ?_
    refine zw_icmp_gt (tgt := 14) (pc' := 10) K dX2_in_7 (by decide) rfl (fun c7 => ?_) (fun c7 => ?_)
    · refine zw_iconst (v := 0) (pc' := 15) K dX2_in_14 (by decide) rfl ?_
      exact zw_zret K hE rfl dX2_in_15 ⟨Nat.le_of_ble_eq_true rfl, Nat.le_of_ble_eq_true rfl⟩ (⟨by simp [zb, Int32.not_lt.mp c2, Int32.not_le.mpr c7], rfl⟩)
    · refine zw_iconst (v := 1) (pc' := 11) K dX2_in_10 (by decide) rfl ?_
      refine zw_goto (tgt := 15) K dX2_in_11 (by decide) ?_
      exact zw_zret K hE rfl dX2_in_15 ⟨Nat.le_of_ble_eq_true rfl, Nat.le_of_ble_eq_true rfl⟩ (⟨by simp [zb, Int32.not_lt.mp c2, Int32.not_lt.mp c7], rfl⟩)
set_option maxHeartbeats 2000000 in
theorem ct_X2_isBidder {w : zw_W} {l : Launch} (hl : l.stackTraces = false) (M : zw_M) (x : Int32) : zw_C w l yX2_isBidder cX2_isBidder 1 (Option.some Jvm.ClassFile.FieldType.boolean) (zr 2 0 0) [.int x] M (zw_pi fun r M1 => r = zb (zin x 7) ∧ M1 = M) zw_no := by
  refine zw_enter RX2 rfl (by decide) hl (by simp [Value.category]) (Nat.le_of_ble_eq_true rfl) (fun X hXl hXw K hE htab hcon => ?_)
  subst hXl; subst hXw
  show zw_Z X _ 0 0 0 [some (.int x)] []
  refine zw_iload_n (x := x) (pc' := 1) K dX2_isBidder_0 rfl rfl ?_
  refine zw_iconst (v := 0) (pc' := 2) K dX2_isBidder_1 (by decide) rfl ?_
  refine zw_bipush (v := 6) (pc' := 4) K dX2_isBidder_2 (by decide) rfl ?_
  refine zc_X2_63 (rest := []) (c' := 0) (n' := 0) (pc' := 7) K (ct_X2_in hl M x 0 6) rfl rfl dX2_isBidder_4 rfl (Nat.le_of_ble_eq_true rfl) ⟨Nat.le_of_ble_eq_true rfl, Nat.le_of_ble_eq_true rfl⟩ ⟨Nat.le_of_ble_eq_true rfl, Nat.le_of_ble_eq_true rfl, Nat.le_of_ble_eq_true rfl, Nat.le_of_ble_eq_true rfl⟩ (zw_kp ?_) zw_kn
  exact zw_zret K hE (zb_nar _) dX2_isBidder_7 ⟨Nat.le_of_ble_eq_true rfl, Nat.le_of_ble_eq_true rfl⟩ (⟨by rw [zin_7], rfl⟩)
set_option maxHeartbeats 2000000 in
theorem ct_X2_isTender {w : zw_W} {l : Launch} (hl : l.stackTraces = false) {M : zw_M} {ad : Nat → Nat → Nat → Nat} {σ μ : zS} {th : Int32} {o : Int64} (hW : zW w M ad σ μ th o) (x : Int32) (hn : zn μ ≤ 30) : zw_C w l yX2_isTender cX2_isTender 2 (Option.some Jvm.ClassFile.FieldType.boolean) (zr 2 0 0) [.ref (ad 100 0 0), .int x] M (zw_pi fun r M1 => r = zb (zin x (zn μ)) ∧ M1 = M) zw_no := by
  refine zw_enter RX2 rfl (by decide) hl (by simp [Value.category]) (Nat.le_of_ble_eq_true rfl) (fun X hXl hXw K hE htab hcon => ?_)
  subst hXl; subst hXw
  show zw_Z X _ 0 0 0 [some (.ref (ad 100 0 0)), some (.int x)] []
  refine zw_iload_n (x := x) (pc' := 1) K dX2_isTender_0 rfl rfl ?_
  refine zw_iconst (v := 0) (pc' := 2) K dX2_isTender_1 (by decide) rfl ?_
  refine zw_aload_n (v := .ref (ad 100 0 0)) (pc' := 3) K dX2_isTender_2 rfl rfl rfl ?_
  refine zg_X2_67 (v := .int (nI (zn μ))) (pc' := 6) K hW.mo rfl dX2_isTender_3 rfl ?_
  refine zw_iconst (v := 1) (pc' := 7) K dX2_isTender_6 (by decide) rfl ?_
  refine zw_isub (pc' := 8) K dX2_isTender_7 rfl ?_
  refine zc_X2_63 (rest := []) (c' := 0) (n' := 0) (pc' := 11) K (ct_X2_in hl M x 0 (nI (zn μ) - 1)) rfl rfl dX2_isTender_8 rfl (Nat.le_of_ble_eq_true rfl) ⟨Nat.le_of_ble_eq_true rfl, Nat.le_of_ble_eq_true rfl⟩ ⟨Nat.le_of_ble_eq_true rfl, Nat.le_of_ble_eq_true rfl, Nat.le_of_ble_eq_true rfl, Nat.le_of_ble_eq_true rfl⟩ (zw_kp ?_) zw_kn
  exact zw_zret K hE (zb_nar _) dX2_isTender_11 ⟨Nat.le_of_ble_eq_true rfl, Nat.le_of_ble_eq_true rfl⟩ (⟨by rw [zin_le (by omega)], rfl⟩)
set_option maxHeartbeats 2000000 in
theorem ct_X2_isFile {w : zw_W} {l : Launch} (hl : l.stackTraces = false) {M : zw_M} {ad : Nat → Nat → Nat → Nat} {σ μ : zS} {th : Int32} {o : Int64} (hW : zW w M ad σ μ th o) (x : Int32) (hn : zg μ ≤ 30) : zw_C w l yX2_isFile cX2_isFile 2 (Option.some Jvm.ClassFile.FieldType.boolean) (zr 2 0 0) [.ref (ad 100 0 0), .int x] M (zw_pi fun r M1 => r = zb (zin x (zg μ)) ∧ M1 = M) zw_no := by
  refine zw_enter RX2 rfl (by decide) hl (by simp [Value.category]) (Nat.le_of_ble_eq_true rfl) (fun X hXl hXw K hE htab hcon => ?_)
  subst hXl; subst hXw
  show zw_Z X _ 0 0 0 [some (.ref (ad 100 0 0)), some (.int x)] []
  refine zw_iload_n (x := x) (pc' := 1) K dX2_isFile_0 rfl rfl ?_
  refine zw_iconst (v := 0) (pc' := 2) K dX2_isFile_1 (by decide) rfl ?_
  refine zw_aload_n (v := .ref (ad 100 0 0)) (pc' := 3) K dX2_isFile_2 rfl rfl rfl ?_
  refine zg_X2_70 (v := .int (nI (zg μ))) (pc' := 6) K hW.mo rfl dX2_isFile_3 rfl ?_
  refine zw_iconst (v := 1) (pc' := 7) K dX2_isFile_6 (by decide) rfl ?_
  refine zw_isub (pc' := 8) K dX2_isFile_7 rfl ?_
  refine zc_X2_63 (rest := []) (c' := 0) (n' := 0) (pc' := 11) K (ct_X2_in hl M x 0 (nI (zg μ) - 1)) rfl rfl dX2_isFile_8 rfl (Nat.le_of_ble_eq_true rfl) ⟨Nat.le_of_ble_eq_true rfl, Nat.le_of_ble_eq_true rfl⟩ ⟨Nat.le_of_ble_eq_true rfl, Nat.le_of_ble_eq_true rfl, Nat.le_of_ble_eq_true rfl, Nat.le_of_ble_eq_true rfl⟩ (zw_kp ?_) zw_kn
  exact zw_zret K hE (zb_nar _) dX2_isFile_11 ⟨Nat.le_of_ble_eq_true rfl, Nat.le_of_ble_eq_true rfl⟩ (⟨by rw [zin_le (by omega)], rfl⟩)
set_option maxHeartbeats 2000000 in
theorem ct_X2_isPair {w : zw_W} {l : Launch} (hl : l.stackTraces = false) (M : zw_M) (x y : Int32) : zw_C w l yX2_isPair cX2_isPair 2 (Option.some Jvm.ClassFile.FieldType.boolean) (zr 3 0 0) [.int x, .int y] M (zw_pi fun r M1 => r = zb (zpair x y) ∧ M1 = M) zw_no := by
  refine zw_enter RX2 rfl (by decide) hl (by simp [Value.category]) (Nat.le_of_ble_eq_true rfl) (fun X hXl hXw K hE htab hcon => ?_)
  subst hXl; subst hXw
  show zw_Z X _ 0 0 0 [some (.int x), some (.int y)] []
  refine zw_iload_n (x := x) (pc' := 1) K dX2_isPair_0 rfl rfl ?_
  refine zc_X2_73 (rest := []) (c' := 0) (n' := 0) (pc' := 4) K (ct_X2_isBidder hl M x) rfl rfl dX2_isPair_1 rfl (Nat.le_of_ble_eq_true rfl) ⟨Nat.le_of_ble_eq_true rfl, Nat.le_of_ble_eq_true rfl⟩ ⟨Nat.le_of_ble_eq_true rfl, Nat.le_of_ble_eq_true rfl, Nat.le_of_ble_eq_true rfl, Nat.le_of_ble_eq_true rfl⟩ (zw_kp ?_) zw_kn
  refine zw_if_eq (tgt := 23) (pc' := 7) K dX2_isPair_4 (by decide) rfl (fun c4 => ?_) (fun c4 => ?_)
  · have c4 := zb_0.mp c4
    refine zw_iconst (v := 0) (pc' := 24) K dX2_isPair_23 (by decide) rfl ?_
    exact zw_zret K hE rfl dX2_isPair_24 ⟨Nat.le_of_ble_eq_true rfl, Nat.le_of_ble_eq_true rfl⟩ (⟨by simp [zb, zpair, c4], rfl⟩)
  · have c4 := zb_nz.mp c4
    refine zw_iload_n (x := y) (pc' := 8) K dX2_isPair_7 rfl rfl ?_
    refine zc_X2_73 (rest := []) (c' := 0) (n' := 0) (pc' := 11) K (ct_X2_isBidder hl M y) rfl rfl dX2_isPair_8 rfl (Nat.le_of_ble_eq_true rfl) ⟨Nat.le_of_ble_eq_true rfl, Nat.le_of_ble_eq_true rfl⟩ ⟨Nat.le_of_ble_eq_true rfl, Nat.le_of_ble_eq_true rfl, Nat.le_of_ble_eq_true rfl, Nat.le_of_ble_eq_true rfl⟩ (zw_kp ?_) zw_kn
    refine zw_if_eq (tgt := 23) (pc' := 14) K dX2_isPair_11 (by decide) rfl (fun c11 => ?_) (fun c11 => ?_)
    · have c11 := zb_0.mp c11
      refine zw_iconst (v := 0) (pc' := 24) K dX2_isPair_23 (by decide) rfl ?_
      exact zw_zret K hE rfl dX2_isPair_24 ⟨Nat.le_of_ble_eq_true rfl, Nat.le_of_ble_eq_true rfl⟩ (⟨by simp [zb, zpair, c4, c11], rfl⟩)
    · have c11 := zb_nz.mp c11
      refine zw_iload_n (x := x) (pc' := 15) K dX2_isPair_14 rfl rfl ?_
      refine zw_iload_n (x := y) (pc' := 16) K dX2_isPair_15 rfl rfl ?_
      refine zw_icmp_eq (tgt := 23) (pc' := 19) K dX2_isPair_16 (by decide) rfl (fun c16 => ?_) (fun c16 => ?_)
      · refine zw_iconst (v := 0) (pc' := 24) K dX2_isPair_23 (by decide) rfl ?_
        exact zw_zret K hE rfl dX2_isPair_24 ⟨Nat.le_of_ble_eq_true rfl, Nat.le_of_ble_eq_true rfl⟩ (⟨by simp [zb, zpair, c4, c11, c16], rfl⟩)
      · refine zw_iconst (v := 1) (pc' := 20) K dX2_isPair_19 (by decide) rfl ?_
        refine zw_goto (tgt := 24) K dX2_isPair_20 (by decide) ?_
        exact zw_zret K hE rfl dX2_isPair_24 ⟨Nat.le_of_ble_eq_true rfl, Nat.le_of_ble_eq_true rfl⟩ (⟨by simp [zb, zpair, c4, c11, c16], rfl⟩)
set_option maxHeartbeats 2000000 in
theorem ct_X2_thrown {w : zw_W} {l : Launch} (hl : l.stackTraces = false) {M : zw_M} {ad : Nat → Nat → Nat → Nat} {σ μ : zS} {th : Int32} {o : Int64} (hW : zW w M ad σ μ th o)  : zw_C w l yX2_thrown cX2_thrown 1 (Option.some Jvm.ClassFile.FieldType.int) (zr 1 0 0) [.ref (ad 100 0 0)] M (zw_pi fun r M1 => r = th ∧ M1 = M) zw_no := by
  refine zw_enter RX2 rfl (by decide) hl (by simp [Value.category]) (Nat.le_of_ble_eq_true rfl) (fun X hXl hXw K hE htab hcon => ?_)
  subst hXl; subst hXw
  show zw_Z X _ 0 0 0 [some (.ref (ad 100 0 0))] []
  refine zw_aload_n (v := .ref (ad 100 0 0)) (pc' := 1) K dX2_thrown_0 rfl rfl rfl ?_
  refine zg_X2_60 (v := .int th) (pc' := 4) K hW.mo rfl dX2_thrown_1 rfl ?_
  exact zw_iret K hE dX2_thrown_4 ⟨Nat.le_of_ble_eq_true rfl, Nat.le_of_ble_eq_true rfl⟩ (⟨rfl, rfl⟩)
set_option maxHeartbeats 2000000 in
theorem ct_X2_fails {w : zw_W} {l : Launch} (hl : l.stackTraces = false) {M : zw_M} {ad : Nat → Nat → Nat → Nat} {σ μ : zS} {th : Int32} {o : Int64} (hW : zW w M ad σ μ th o) (x : Int32) : zw_C w l yX2_fails cX2_fails 2 (Option.some Jvm.ClassFile.FieldType.int) (zr 1 0 0) [.ref (ad 100 0 0), .int x] M (zw_pi fun r M1 => r = 0 ∧ zW w M1 ad σ μ x o) zw_no := by
  refine zw_enter RX2 rfl (by decide) hl (by simp [Value.category]) (Nat.le_of_ble_eq_true rfl) (fun X hXl hXw K hE htab hcon => ?_)
  subst hXl; subst hXw
  show zw_Z X _ 0 0 0 [some (.ref (ad 100 0 0)), some (.int x)] []
  refine zw_aload_n (v := .ref (ad 100 0 0)) (pc' := 1) K dX2_fails_0 rfl rfl rfl ?_
  refine zw_iload_n (x := x) (pc' := 2) K dX2_fails_1 rfl rfl ?_
  refine zp_X2_60 (v := .int x) (pc' := 5) K hW.mo rfl rfl (by simp [zmob]) dX2_fails_2 rfl ?_
  refine zw_nmM (fun M1 eM1 => ?_)
  have hW2 : zW (zw_Xw X) M1 ad σ μ x o := by rw [eM1]; exact hW.pth
  refine zw_iconst (v := 0) (pc' := 6) K dX2_fails_5 (by decide) rfl ?_
  exact zw_iret K hE dX2_fails_6 ⟨Nat.le_of_ble_eq_true rfl, Nat.le_of_ble_eq_true rfl⟩ (⟨rfl, hW2⟩)
set_option maxHeartbeats 2000000 in
theorem ct_X2_stands {w : zw_W} {l : Launch} (hl : l.stackTraces = false) {M : zw_M} {ad : Nat → Nat → Nat → Nat} {σ μ : zS} {th : Int32} {o : Int64} (hW : zW w M ad σ μ th o) (i j : Nat) (hi : i < 30) (hj : j < 7) : zw_C w l yX2_stands cX2_stands 3 (Option.some Jvm.ClassFile.FieldType.boolean) (zr 1 0 0) [.ref (ad 100 0 0), .int (nI i), .int (nI j)] M (zw_pi fun r M1 => r = zb (zst μ i j) ∧ M1 = M) zw_no := by
  refine zw_enter RX2 rfl (by decide) hl (by simp [Value.category]) (Nat.le_of_ble_eq_true rfl) (fun X hXl hXw K hE htab hcon => ?_)
  subst hXl; subst hXw
  show zw_Z X _ 0 0 0 [some (.ref (ad 100 0 0)), some (.int (nI i)), some (.int (nI j))] []
  refine zw_aload_n (v := .ref (ad 100 0 0)) (pc' := 1) K dX2_stands_0 rfl rfl rfl ?_
  refine zg_X2_22 (v := .ref (ad 105 0 0)) (pc' := 4) K hW.mo rfl dX2_stands_1 rfl ?_
  refine zw_bipush (v := 7) (pc' := 6) K dX2_stands_4 (by decide) rfl ?_
  refine zw_iload_n (x := nI i) (pc' := 7) K dX2_stands_6 rfl rfl ?_
  refine zw_imul (pc' := 8) K dX2_stands_7 rfl ?_
  refine zw_iload_n (x := nI j) (pc' := 9) K dX2_stands_8 rfl rfl ?_
  refine zw_iadd (pc' := 10) K dX2_stands_9 rfl ?_
  refine zn_iald (j := 7 * i + j) (v := ((zv μ 4) (7 * i + j))) (pc' := 11) K hW.m4 (zx_7 i j) (by omega) rfl dX2_stands_10 rfl ?_
  refine zw_if_le (tgt := 32) (pc' := 14) K dX2_stands_11 (by decide) rfl (fun c11 => ?_) (fun c11 => ?_)
  · refine zw_iconst (v := 0) (pc' := 33) K dX2_stands_32 (by decide) rfl ?_
    exact zw_zret K hE rfl dX2_stands_33 ⟨Nat.le_of_ble_eq_true rfl, Nat.le_of_ble_eq_true rfl⟩ (⟨by simp [zb, zst, Int32.not_lt.mpr c11], rfl⟩)
  · refine zw_aload_n (v := .ref (ad 100 0 0)) (pc' := 15) K dX2_stands_14 rfl rfl rfl ?_
    refine zg_X2_25 (v := .ref (ad 106 0 0)) (pc' := 18) K hW.mo rfl dX2_stands_15 rfl ?_
    refine zw_bipush (v := 7) (pc' := 20) K dX2_stands_18 (by decide) rfl ?_
    refine zw_iload_n (x := nI i) (pc' := 21) K dX2_stands_20 rfl rfl ?_
    refine zw_imul (pc' := 22) K dX2_stands_21 rfl ?_
    refine zw_iload_n (x := nI j) (pc' := 23) K dX2_stands_22 rfl rfl ?_
    refine zw_iadd (pc' := 24) K dX2_stands_23 rfl ?_
    refine zn_zald (j := 7 * i + j) (v := ((zv μ 5) (7 * i + j))) (pc' := 25) K hW.m5 (zx_7 i j) (by omega) rfl dX2_stands_24 rfl ?_
    refine zw_if_ne (tgt := 32) (pc' := 28) K dX2_stands_25 (by decide) rfl (fun c25 => ?_) (fun c25 => ?_)
    · refine zw_iconst (v := 0) (pc' := 33) K dX2_stands_32 (by decide) rfl ?_
      exact zw_zret K hE rfl dX2_stands_33 ⟨Nat.le_of_ble_eq_true rfl, Nat.le_of_ble_eq_true rfl⟩ (⟨by simp [zb, zst, Int32.not_le.mp c11, c25], rfl⟩)
    · refine zw_iconst (v := 1) (pc' := 29) K dX2_stands_28 (by decide) rfl ?_
      refine zw_goto (tgt := 33) K dX2_stands_29 (by decide) ?_
      exact zw_zret K hE rfl dX2_stands_33 ⟨Nat.le_of_ble_eq_true rfl, Nat.le_of_ble_eq_true rfl⟩ (⟨by simp [zb, zst, Int32.not_le.mp c11, c25], rfl⟩)
set_option maxHeartbeats 2000000 in
theorem ct_X2_price {w : zw_W} {l : Launch} (hl : l.stackTraces = false) {M : zw_M} {ad : Nat → Nat → Nat → Nat} {σ μ : zS} {th : Int32} {o : Int64} (hW : zW w M ad σ μ th o) (i : Nat) (hi : i < 30) (hw : ∃ j, j < 7 ∧ zv μ 1 i = nI j) : zw_C w l yX2_price cX2_price 2 (Option.some Jvm.ClassFile.FieldType.int) (zr 1 0 0) [.ref (ad 100 0 0), .int (nI i)] M (zw_pi fun r M1 => r = zprice μ i ∧ M1 = M) zw_no := by
  obtain ⟨j, hj, ej⟩ := hw
  refine zw_enter RX2 rfl (by decide) hl (by simp [Value.category]) (Nat.le_of_ble_eq_true rfl) (fun X hXl hXw K hE htab hcon => ?_)
  subst hXl; subst hXw
  show zw_Z X _ 0 0 0 [some (.ref (ad 100 0 0)), some (.int (nI i))] []
  refine zw_aload_n (v := .ref (ad 100 0 0)) (pc' := 1) K dX2_price_0 rfl rfl rfl ?_
  refine zg_X2_22 (v := .ref (ad 105 0 0)) (pc' := 4) K hW.mo rfl dX2_price_1 rfl ?_
  refine zw_bipush (v := 7) (pc' := 6) K dX2_price_4 (by decide) rfl ?_
  refine zw_iload_n (x := nI i) (pc' := 7) K dX2_price_6 rfl rfl ?_
  refine zw_imul (pc' := 8) K dX2_price_7 rfl ?_
  refine zw_aload_n (v := .ref (ad 100 0 0)) (pc' := 9) K dX2_price_8 rfl rfl rfl ?_
  refine zg_X2_13 (v := .ref (ad 102 0 0)) (pc' := 12) K hW.mo rfl dX2_price_9 rfl ?_
  refine zw_iload_n (x := nI i) (pc' := 13) K dX2_price_12 rfl rfl ?_
  refine zn_iald (j := i) (v := ((zv μ 1) i)) (pc' := 14) K hW.m1 rfl hi rfl dX2_price_13 rfl ?_
  refine zw_iadd (pc' := 15) K dX2_price_14 rfl ?_
  refine zn_iald (j := 7 * i + j) (v := ((zv μ 4) (7 * i + j))) (pc' := 16) K hW.m4 (by rw [ej]; exact zx_7 i j) (by omega) rfl dX2_price_15 rfl ?_
  exact zw_iret K hE dX2_price_16 ⟨Nat.le_of_ble_eq_true rfl, Nat.le_of_ble_eq_true rfl⟩ (⟨by unfold zprice; rw [ej, zx_n (by omega)], rfl⟩)
set_option maxHeartbeats 2000000 in
theorem ct_X2_countBids {w : zw_W} {l : Launch} (hl : l.stackTraces = false) {M : zw_M} {ad : Nat → Nat → Nat → Nat} {σ μ : zS} {th : Int32} {o : Int64} (hW : zW w M ad σ μ th o) (i : Nat) (hi : i < 30) : zw_C w l yX2_countBids cX2_countBids 4 (Option.some Jvm.ClassFile.FieldType.int) (zr 2 0 0) [.ref (ad 100 0 0), .int (nI i)] M (zw_pi fun r M1 => r = zcount μ i ∧ M1 = M) zw_no := by
  refine zw_enter RX2 rfl (by decide) hl (by simp [Value.category]) (Nat.le_of_ble_eq_true rfl) (fun X hXl hXw K hE htab hcon => ?_)
  subst hXl; subst hXw
  show zw_Z X _ 0 0 0 [some (.ref (ad 100 0 0)), some (.int (nI i)), none, none] []
  refine zw_iconst (v := 0) (pc' := 1) K dX2_countBids_0 (by decide) rfl ?_
  refine zw_istore_n (lv' := [some (.ref (ad 100 0 0)), some (.int (nI i)), some (.int 0), none]) (pc' := 2) K dX2_countBids_1 (by decide) rfl rfl ?_
  refine zw_iconst (v := 0) (pc' := 3) K dX2_countBids_2 (by decide) rfl ?_
  refine zw_istore_n (lv' := [some (.ref (ad 100 0 0)), some (.int (nI i)), some (.int 0), some (.int 0)]) (pc' := 4) K dX2_countBids_3 (by decide) rfl rfl ?_
  have L4 : ∀ b : Nat, b ≤ 7 → ∀ (xi : Int32) (acc : Int32), xi = nI b → (acc = zf (zcountF μ i) b 0) → zw_Z X M 0 0 4 [some (.ref (ad 100 0 0)), some (.int (nI i)), some (.int acc), some (.int xi)] [] := by
    refine zl_up (fun b hi4 ih4 => ?_)
    intro xi acc hxi hacc
    refine zw_iload_n (x := xi) (pc' := 5) K dX2_countBids_4 rfl rfl ?_
    refine zw_bipush (v := 7) (pc' := 7) K dX2_countBids_5 (by decide) rfl ?_
    refine zw_icmp_ge (tgt := 33) (pc' := 10) K dX2_countBids_7 (by decide) rfl (fun c7 => ?_) (fun c7 => ?_)
    · have hend4 : b = 7 := zi_ge hxi (by decide) hi4 (by decide) c7
      refine zw_iload_n (x := acc) (pc' := 34) K dX2_countBids_33 rfl rfl ?_
      exact zw_iret K hE dX2_countBids_34 ⟨Nat.le_of_ble_eq_true rfl, Nat.le_of_ble_eq_true rfl⟩ (⟨by rw [hacc, hend4]; rfl, rfl⟩)
    · have hlt4 : b < 7 := zi_lt hxi (by decide) hi4 (by decide) c7
      refine zw_iload_n (x := acc) (pc' := 11) K dX2_countBids_10 rfl rfl ?_
      refine zw_aload_n (v := .ref (ad 100 0 0)) (pc' := 12) K dX2_countBids_11 rfl rfl rfl ?_
      refine zw_iload_n (x := nI i) (pc' := 13) K dX2_countBids_12 rfl rfl ?_
      refine zw_iload_n (x := xi) (pc' := 14) K dX2_countBids_13 rfl rfl ?_
      subst hxi
      refine zc_X2_81 (rest := [.int acc]) (c' := 0) (n' := 0) (pc' := 17) K (ct_X2_stands hl hW i b hi (by omega)) hW.mo rfl rfl dX2_countBids_14 rfl (Nat.le_of_ble_eq_true rfl) ⟨Nat.le_of_ble_eq_true rfl, Nat.le_of_ble_eq_true rfl⟩ ⟨Nat.le_of_ble_eq_true rfl, Nat.le_of_ble_eq_true rfl, Nat.le_of_ble_eq_true rfl, Nat.le_of_ble_eq_true rfl⟩ (zw_kp ?_) zw_kn
      refine zw_if_eq (tgt := 24) (pc' := 20) K dX2_countBids_17 (by decide) rfl (fun c17 => ?_) (fun c17 => ?_)
      · have c17 := zb_0.mp c17
        refine zw_iconst (v := 0) (pc' := 25) K dX2_countBids_24 (by decide) rfl ?_
        refine zw_iadd (pc' := 26) K dX2_countBids_25 rfl ?_
        refine zw_istore_n (lv' := [some (.ref (ad 100 0 0)), some (.int (nI i)), some (.int (acc + 0)), some (.int (nI b))]) (pc' := 27) K dX2_countBids_26 (by decide) rfl rfl ?_
        refine zw_iinc (x := (nI b)) (lv' := [some (.ref (ad 100 0 0)), some (.int (nI i)), some (.int (acc + 0)), some (.int ((nI b) + 1))]) (pc' := 30) K dX2_countBids_27 rfl (by decide) rfl rfl ?_
        refine zw_goto (tgt := 4) K dX2_countBids_30 (by decide) ?_
        exact ih4 hlt4 ((nI b) + 1) (acc + 0) (nI_1 b) (by rw [zf_s, ← hacc]; simp [zcountF, zb, c17])
      · have c17 := zb_nz.mp c17
        refine zw_iconst (v := 1) (pc' := 21) K dX2_countBids_20 (by decide) rfl ?_
        refine zw_goto (tgt := 25) K dX2_countBids_21 (by decide) ?_
        refine zw_iadd (pc' := 26) K dX2_countBids_25 rfl ?_
        refine zw_istore_n (lv' := [some (.ref (ad 100 0 0)), some (.int (nI i)), some (.int (acc + 1)), some (.int (nI b))]) (pc' := 27) K dX2_countBids_26 (by decide) rfl rfl ?_
        refine zw_iinc (x := (nI b)) (lv' := [some (.ref (ad 100 0 0)), some (.int (nI i)), some (.int (acc + 1)), some (.int ((nI b) + 1))]) (pc' := 30) K dX2_countBids_27 rfl (by decide) rfl rfl ?_
        refine zw_goto (tgt := 4) K dX2_countBids_30 (by decide) ?_
        exact ih4 hlt4 ((nI b) + 1) (acc + 1) (nI_1 b) (by rw [zf_s, ← hacc]; simp [zcountF, zb, c17])
  exact L4 0 (Nat.zero_le _) 0 0 rfl rfl
set_option maxHeartbeats 2000000 in
theorem ct_X2_isOf {w : zw_W} {l : Launch} (hl : l.stackTraces = false) {M : zw_M} {ad : Nat → Nat → Nat → Nat} {σ μ : zS} {th : Int32} {o : Int64} (hW : zW w M ad σ μ th o) (f : Nat) (hf : f < 20) (b : Int32) : zw_C w l yX2_isOf cX2_isOf 3 (Option.some Jvm.ClassFile.FieldType.boolean) (zr 1 0 0) [.ref (ad 100 0 0), .int (nI f), .int b] M (zw_pi fun r M1 => r = zb (zof μ f b) ∧ M1 = M) zw_no := by
  refine zw_enter RX2 rfl (by decide) hl (by simp [Value.category]) (Nat.le_of_ble_eq_true rfl) (fun X hXl hXw K hE htab hcon => ?_)
  subst hXl; subst hXw
  show zw_Z X _ 0 0 0 [some (.ref (ad 100 0 0)), some (.int (nI f)), some (.int b)] []
  refine zw_iload_n (x := b) (pc' := 1) K dX2_isOf_0 rfl rfl ?_
  refine zw_aload_n (v := .ref (ad 100 0 0)) (pc' := 2) K dX2_isOf_1 rfl rfl rfl ?_
  refine zg_X2_33 (v := .ref (ad 108 0 0)) (pc' := 5) K hW.mo rfl dX2_isOf_2 rfl ?_
  refine zw_iload_n (x := nI f) (pc' := 6) K dX2_isOf_5 rfl rfl ?_
  refine zn_iald (j := f) (v := ((zv μ 7) f)) (pc' := 7) K hW.m7 rfl hf rfl dX2_isOf_6 rfl ?_
  refine zw_icmp_eq (tgt := 20) (pc' := 10) K dX2_isOf_7 (by decide) rfl (fun c7 => ?_) (fun c7 => ?_)
  · refine zw_iconst (v := 1) (pc' := 21) K dX2_isOf_20 (by decide) rfl ?_
    refine zw_goto (tgt := 25) K dX2_isOf_21 (by decide) ?_
    exact zw_zret K hE rfl dX2_isOf_25 ⟨Nat.le_of_ble_eq_true rfl, Nat.le_of_ble_eq_true rfl⟩ (⟨by simp [zb, zof, c7], rfl⟩)
  · refine zw_iload_n (x := b) (pc' := 11) K dX2_isOf_10 rfl rfl ?_
    refine zw_aload_n (v := .ref (ad 100 0 0)) (pc' := 12) K dX2_isOf_11 rfl rfl rfl ?_
    refine zg_X2_36 (v := .ref (ad 109 0 0)) (pc' := 15) K hW.mo rfl dX2_isOf_12 rfl ?_
    refine zw_iload_n (x := nI f) (pc' := 16) K dX2_isOf_15 rfl rfl ?_
    refine zn_iald (j := f) (v := ((zv μ 8) f)) (pc' := 17) K hW.m8 rfl hf rfl dX2_isOf_16 rfl ?_
    refine zw_icmp_ne (tgt := 24) (pc' := 20) K dX2_isOf_17 (by decide) rfl (fun c17 => ?_) (fun c17 => ?_)
    · refine zw_iconst (v := 0) (pc' := 25) K dX2_isOf_24 (by decide) rfl ?_
      exact zw_zret K hE rfl dX2_isOf_25 ⟨Nat.le_of_ble_eq_true rfl, Nat.le_of_ble_eq_true rfl⟩ (⟨by simp [zb, zof, c7, c17], rfl⟩)
    · refine zw_iconst (v := 1) (pc' := 21) K dX2_isOf_20 (by decide) rfl ?_
      refine zw_goto (tgt := 25) K dX2_isOf_21 (by decide) ?_
      exact zw_zret K hE rfl dX2_isOf_25 ⟨Nat.le_of_ble_eq_true rfl, Nat.le_of_ble_eq_true rfl⟩ (⟨by simp [zb, zof, c7, c17], rfl⟩)
