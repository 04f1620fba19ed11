/-! CartelWatch: turnover, setMark, compensate, matters, firstTeller, fine -/
set_option maxRecDepth 100000
section ZWQ
variable {w : zw_W} {M : zw_M} {ad : Nat → Nat → Nat → Nat} {σ μ : zS} {th : Int32} {o : Int64}
theorem zcC_none {k i j : Nat} (hk : k < 10) (h : ¬ (i = 0 ∧ j = 0)) : zcC w ad σ k i j = none := by unfold zcC; rw [if_pos hk, if_neg h]
theorem zpr_ne {v v' i x : _} {f : Nat} (h7 : v ≠ 7) (h8 : v ≠ 8) (h : v ≠ v') : zpr (zset σ v i x) v' f = zpr σ v' f := by
  funext b
  have e : ∀ a j, a ≠ v → zv (zset σ v i x) a j = zv σ a j := fun a j ha => by rw [zset_v, if_neg (fun q => ha q.1)]
  unfold zpr
  rw [e 7 f (Ne.symm h7), e 8 f (Ne.symm h8), e v' _ (Ne.symm h), e v' _ (Ne.symm h)]
theorem zW.qm (h : zW w M ad σ μ th o) {x : Int32} : zW w (zw_u M (ad 0 0 0) (zw_eC 0 [.ref (ad 1 0 0), .ref (ad 2 0 0), .ref (ad 3 0 0), .int x])) ad (zset σ 6 0 x) μ th o := by
  refine h.putC (k := 0) (i := 0) (j := 0) (by decide) rfl rfl (fun k' i' j' hk q => ?_)
  by_cases z : k' = 0
  · subst z
    rw [zcC_none (by decide) (fun y => q ⟨rfl, y⟩), zcC_none (by decide) (fun y => q ⟨rfl, y⟩)]
  · exact zcC_congr rfl rfl (fun y => absurd y z) (fun _ => by funext i; rw [zset_v, if_neg (by omega)]) (fun _ _ a ha => by rw [zset_v, if_neg (by omega)]) (fun _ _ b _ => by rw [zset_v, if_neg (by omega)]) (fun _ _ => by rw [zset_v, zset_v, if_neg (by omega), if_neg (by omega)]; exact ⟨rfl, rfl⟩)
      (fun _ => by rw [zset_v, zset_v, if_neg (by omega), if_neg (by omega)]; exact ⟨rfl, rfl⟩) (fun _ => by rw [zset_v, zset_v, if_neg (by omega), if_neg (by omega)]; exact ⟨rfl, rfl⟩) (fun _ => rfl) (fun _ => rfl) (fun _ => zpr_ne (by decide) (by decide) (by decide)) (fun _ => zpr_ne (by decide) (by decide) (by decide))
theorem zW.q13 (h : zW w M ad σ μ th o) {j : Nat} {x : Int32} : zW w (zw_u M (ad 3 0 0) (zw_eI w 7 (upd (zv σ 13) j x))) ad (zset σ 13 j x) μ th o := by
  rw [← zv_fun]
  refine h.putC (k := 3) (i := 0) (j := 0) (by decide) rfl rfl (fun k' i' j' hk q => ?_)
  by_cases z : k' = 3
  · subst z
    rw [zcC_none (by decide) (fun y => q ⟨rfl, y⟩), zcC_none (by decide) (fun y => q ⟨rfl, y⟩)]
  · exact zcC_congr rfl rfl (fun _ => by rw [zset_v, if_neg (by omega)]) (fun y => absurd y z) (fun _ _ a ha => by rw [zset_v, if_neg (by omega)]) (fun _ _ b _ => by rw [zset_v, if_neg (by omega)]) (fun _ _ => by rw [zset_v, zset_v, if_neg (by omega), if_neg (by omega)]; exact ⟨rfl, rfl⟩)
      (fun _ => by rw [zset_v, zset_v, if_neg (by omega), if_neg (by omega)]; exact ⟨rfl, rfl⟩) (fun _ => by rw [zset_v, zset_v, if_neg (by omega), if_neg (by omega)]; exact ⟨rfl, rfl⟩) (fun _ => rfl) (fun _ => rfl) (fun _ => zpr_ne (by decide) (by decide) (by decide)) (fun _ => zpr_ne (by decide) (by decide) (by decide))
end ZWQ
set_option maxHeartbeats 2000000 in
theorem ct_X1_turnover {w : zw_W} {la : Launch} (hl : la.stackTraces = false) {M : zw_M} {ad : Nat → Nat → Nat → Nat} {σ μ : zS} {th : Int32} {o : Int64} (hW : zW w M ad σ μ th o) (hI : zI σ) (x : Int32) : zw_C w la yX1_turnover cX1_turnover 2 (Option.some Jvm.ClassFile.FieldType.int) (zrl 9 2 7) [.ref (ad 0 0 0), .int x] M (zw_pi (zPo w ad μ th o (zop_turnover σ x))) (zPx ["java/lang/IllegalArgumentException"] w ad σ μ th o (zop_turnover σ x)) := by
  refine zw_enter RX1 rfl (by decide) hl (by simp [Value.category]) (Nat.le_of_ble_eq_true rfl) (fun X hXl hXw K hE htab hcon => ?_)
  subst hXl; subst hXw
  show zw_Z X _ 0 0 0 [some (.ref (ad 0 0 0)), some (.int x)] []
  refine zw_aload_n (v := .ref (ad 0 0 0)) (pc' := 1) K dX1_turnover_0 rfl rfl rfl ?_
  refine zw_iload_n (x := x) (pc' := 2) K dX1_turnover_1 rfl rfl ?_
  refine zc_X1_54 (rest := [.ref (ad 0 0 0)]) (c' := 1) (n' := 6) (pc' := 5) K (ct_X1_bidder hl M x) rfl rfl dX1_turnover_2 rfl (Nat.le_of_ble_eq_true rfl) ⟨Nat.le_of_ble_eq_true rfl, Nat.le_of_ble_eq_true rfl⟩ ⟨Nat.le_of_ble_eq_true rfl, Nat.le_of_ble_eq_true rfl, Nat.le_of_ble_eq_true rfl, Nat.le_of_ble_eq_true rfl⟩ (zw_ki fun r M1 h => ?_) (fun E M1 h => ?_)
  · obtain ⟨hr, h1, hM⟩ := h
    have hM := hM.symm
    subst hM
    rw [hr]
    refine zc_X1_136 (rest := []) (c' := 2) (n' := 7) (pc' := 8) K (ct_X1_turnoverOf hl hW hI x (zneg7 h1)) hW.c0 rfl rfl dX1_turnover_5 rfl (Nat.le_of_ble_eq_true rfl) ⟨Nat.le_of_ble_eq_true rfl, Nat.le_of_ble_eq_true rfl⟩ ⟨Nat.le_of_ble_eq_true rfl, Nat.le_of_ble_eq_true rfl, Nat.le_of_ble_eq_true rfl, Nat.le_of_ble_eq_true rfl⟩ (zw_ki fun r M1 h => ?_) zw_kn
    obtain ⟨hr, hW1⟩ := h
    subst hr
    exact zw_iret K hE dX1_turnover_8 ⟨Nat.le_of_ble_eq_true rfl, Nat.le_of_ble_eq_true rfl⟩ (zPo.mk (by unfold zop_turnover; rw [if_pos h1]) hW1.x)
  · obtain ⟨h0, h1, hM⟩ := h
    have hM := hM.symm
    subst h0; subst hM
    exact zw_out K hE htab ⟨Nat.le_of_ble_eq_true rfl, Nat.le_of_ble_eq_true rfl⟩ (zPx.mk 0 (c := 1) (by simp [zop_turnover, h1]) (by decide) rfl hW)
set_option maxHeartbeats 2000000 in
theorem ct_X1_setMark {w : zw_W} {la : Launch} (hl : la.stackTraces = false) {M : zw_M} {ad : Nat → Nat → Nat → Nat} {σ μ : zS} {th : Int32} {o : Int64} (hW : zW w M ad σ μ th o) (x : Int32) : zw_C w la yX1_setMark cX1_setMark 3 (Option.some Jvm.ClassFile.FieldType.int) (zr 8 1 6) [.ref (ad 0 0 0), .int x] M (zw_pi (zPo w ad μ th o (zop_setMark σ x))) (zPx ["java/lang/IllegalArgumentException"] w ad σ μ th o (zop_setMark σ x)) := by
  refine zw_enter RX1 rfl (by decide) hl (by simp [Value.category]) (Nat.le_of_ble_eq_true rfl) (fun X hXl hXw K hE htab hcon => ?_)
  subst hXl; subst hXw
  show zw_Z X _ 0 0 0 [some (.ref (ad 0 0 0)), some (.int x), none] []
  refine zw_iload_n (x := x) (pc' := 1) K dX1_setMark_0 rfl rfl ?_
  refine zw_iconst (v := 1) (pc' := 2) K dX1_setMark_1 (by decide) rfl ?_
  refine zw_sipush (v := 1000) (pc' := 5) K dX1_setMark_2 (by decide) rfl ?_
  refine zc_X1_50 (rest := []) (c' := 1) (n' := 6) (pc' := 8) K (ct_X1_in hl M x 1 1000) rfl rfl dX1_setMark_5 rfl (Nat.le_of_ble_eq_true rfl) ⟨Nat.le_of_ble_eq_true rfl, Nat.le_of_ble_eq_true rfl⟩ ⟨Nat.le_of_ble_eq_true rfl, Nat.le_of_ble_eq_true rfl, Nat.le_of_ble_eq_true rfl, Nat.le_of_ble_eq_true rfl⟩ (zw_ki fun r M1 h => ?_) (fun E M1 h => ?_)
  · obtain ⟨hr, h1, hM⟩ := h
    have hM := hM.symm
    subst hM
    rw [hr]
    refine zw_pop (pc' := 9) K dX1_setMark_8 rfl rfl ?_
    refine zw_aload_n (v := .ref (ad 0 0 0)) (pc' := 10) K dX1_setMark_9 rfl rfl rfl ?_
    refine zg_X1_39 (v := .int (zv σ 6 0)) (pc' := 13) K hW.c0 rfl dX1_setMark_10 rfl ?_
    refine zw_istore_n (lv' := [some (.ref (ad 0 0 0)), some (.int x), some (.int (zv σ 6 0))]) (pc' := 14) K dX1_setMark_13 (by decide) rfl rfl ?_
    refine zw_aload_n (v := .ref (ad 0 0 0)) (pc' := 15) K dX1_setMark_14 rfl rfl rfl ?_
    refine zw_iload_n (x := x) (pc' := 16) K dX1_setMark_15 rfl rfl ?_
    refine zp_X1_39 (v := .int x) (pc' := 19) K hW.c0 rfl rfl (by simp) dX1_setMark_16 rfl ?_
    refine zw_nmM (fun M1 eM1 => ?_)
    have hW2 : zW (zw_Xw X) M1 ad (zset σ 6 0 x) μ th o := by rw [eM1]; exact hW.qm
    refine zw_iload_n (x := zv σ 6 0) (pc' := 20) K dX1_setMark_19 rfl rfl ?_
    exact zw_iret K hE dX1_setMark_20 ⟨Nat.le_of_ble_eq_true rfl, Nat.le_of_ble_eq_true rfl⟩ (zPo.mk (by unfold zop_setMark; rw [if_pos (show (decide (1 ≤ x) && decide (x ≤ 1000)) = true from h1)]) hW2.x)
  · obtain ⟨h0, h1, hM⟩ := h
    have hM := hM.symm
    subst h0; subst hM
    exact zw_out K hE htab ⟨Nat.le_of_ble_eq_true rfl, Nat.le_of_ble_eq_true rfl⟩ (zPx.mk 0 (c := 1) (by unfold zop_setMark; rw [if_neg (by rw [show (decide (1 ≤ x) && decide (x ≤ 1000)) = false from h1]; decide)]) (by decide) rfl hW)
set_option maxHeartbeats 2000000 in
theorem ct_X1_compensate {w : zw_W} {la : Launch} (hl : la.stackTraces = false) {M : zw_M} {ad : Nat → Nat → Nat → Nat} {σ μ : zS} {th : Int32} {o : Int64} (hW : zW w M ad σ μ th o) (b x : Int32) : zw_C w la yX1_compensate cX1_compensate 3 (Option.some Jvm.ClassFile.FieldType.int) (zr 8 2 12) [.ref (ad 0 0 0), .int b, .int x] M (zw_pi (zPo w ad μ th o (zop_compensate σ b x))) (zPx ["java/lang/IllegalArgumentException"] w ad σ μ th o (zop_compensate σ b x)) := by
  refine zw_enter RX1 rfl (by decide) hl (by simp [Value.category]) (Nat.le_of_ble_eq_true rfl) (fun X hXl hXw K hE htab hcon => ?_)
  subst hXl; subst hXw
  show zw_Z X _ 0 0 0 [some (.ref (ad 0 0 0)), some (.int b), some (.int x)] []
  refine zw_iload_n (x := b) (pc' := 1) K dX1_compensate_0 rfl rfl ?_
  refine zc_X1_54 (rest := []) (c' := 1) (n' := 6) (pc' := 4) K (ct_X1_bidder hl M b) rfl rfl dX1_compensate_1 rfl (Nat.le_of_ble_eq_true rfl) ⟨Nat.le_of_ble_eq_true rfl, Nat.le_of_ble_eq_true rfl⟩ ⟨Nat.le_of_ble_eq_true rfl, Nat.le_of_ble_eq_true rfl, Nat.le_of_ble_eq_true rfl, Nat.le_of_ble_eq_true rfl⟩ (zw_ki fun r M1 h => ?_) (fun E M1 h => ?_)
  · obtain ⟨hr, h1, hM⟩ := h
    have hM := hM.symm
    subst hM
    rw [hr]
    obtain ⟨j, hj, ej⟩ := zin_of h1 (by decide)
    subst ej
    refine zw_pop (pc' := 5) K dX1_compensate_4 rfl rfl ?_
    refine zw_iload_n (x := x) (pc' := 6) K dX1_compensate_5 rfl rfl ?_
    refine zw_iconst (v := 1) (pc' := 7) K dX1_compensate_6 (by decide) rfl ?_
    refine zw_ldc (v := 100000) (pc' := 9) K q424 dX1_compensate_7 rfl ?_
    refine zc_X1_50 (rest := []) (c' := 2) (n' := 12) (pc' := 12) K (ct_X1_in hl M x 1 100000) rfl rfl dX1_compensate_9 rfl (Nat.le_of_ble_eq_true rfl) ⟨Nat.le_of_ble_eq_true rfl, Nat.le_of_ble_eq_true rfl⟩ ⟨Nat.le_of_ble_eq_true rfl, Nat.le_of_ble_eq_true rfl, Nat.le_of_ble_eq_true rfl, Nat.le_of_ble_eq_true rfl⟩ (zw_ki fun r M1 h => ?_) (fun E M1 h => ?_)
    · obtain ⟨hr, h2, hM⟩ := h
      have hM := hM.symm
      subst hM
      rw [hr]
      refine zw_pop (pc' := 13) K dX1_compensate_12 rfl rfl ?_
      refine zw_aload_n (v := .ref (ad 0 0 0)) (pc' := 14) K dX1_compensate_13 rfl rfl rfl ?_
      refine zg_X1_35 (v := .ref (ad 3 0 0)) (pc' := 17) K hW.c0 rfl dX1_compensate_14 rfl ?_
      refine zw_iload_n (x := (nI j)) (pc' := 18) K dX1_compensate_17 rfl rfl ?_
      refine zw_dup2 (pc' := 19) K dX1_compensate_18 rfl rfl rfl ?_
      refine zn_iald (j := j) (v := ((zv σ 13) j)) (pc' := 20) K hW.c3 rfl hj rfl dX1_compensate_19 rfl ?_
      refine zw_iload_n (x := x) (pc' := 21) K dX1_compensate_20 rfl rfl ?_
      refine zw_iadd (pc' := 22) K dX1_compensate_21 rfl ?_
      refine zn_iast (j := j) (pc' := 23) K hW.c3 rfl hj dX1_compensate_22 rfl ?_
      refine zw_nmM (fun M1 eM1 => ?_)
      have hW2 : zW (zw_Xw X) M1 ad (zset σ 13 j (((zv σ 13) j) + x)) μ th o := by rw [eM1]; exact hW.q13
      refine zw_aload_n (v := .ref (ad 0 0 0)) (pc' := 24) K dX1_compensate_23 rfl rfl rfl ?_
      refine zg_X1_35 (v := .ref (ad 3 0 0)) (pc' := 27) K hW2.c0 rfl dX1_compensate_24 rfl ?_
      refine zw_iload_n (x := (nI j)) (pc' := 28) K dX1_compensate_27 rfl rfl ?_
      refine zn_iald (j := j) (v := (zv σ 13 j + x)) (pc' := 29) K hW2.c3 rfl hj (by rw [zset_v, if_pos ⟨rfl, rfl⟩]) dX1_compensate_28 rfl ?_
      exact zw_iret K hE dX1_compensate_29 ⟨Nat.le_of_ble_eq_true rfl, Nat.le_of_ble_eq_true rfl⟩ (zPo.mk (by unfold zop_compensate; rw [if_neg (by rw [h1, show zmo x = true from h2]; decide), zx_n (by omega)]) hW2.x)
    · obtain ⟨h0, h2, hM⟩ := h
      have hM := hM.symm
      subst h0; subst hM
      exact zw_out K hE htab ⟨Nat.le_of_ble_eq_true rfl, Nat.le_of_ble_eq_true rfl⟩ (zPx.mk 0 (c := 1) (by unfold zop_compensate; rw [if_pos (by rw [show zmo x = false from h2, Bool.and_false])]) (by decide) rfl hW)
  · obtain ⟨h0, h1, hM⟩ := h
    have hM := hM.symm
    subst h0; subst hM
    exact zw_out K hE htab ⟨Nat.le_of_ble_eq_true rfl, Nat.le_of_ble_eq_true rfl⟩ (zPx.mk 0 (c := 1) (by simp [zop_compensate, h1]) (by decide) rfl hW)
set_option maxHeartbeats 2000000 in
theorem ct_X1_matters {w : zw_W} {la : Launch} (hl : la.stackTraces = false) {M : zw_M} {ad : Nat → Nat → Nat → Nat} {σ μ : zS} {th : Int32} {o : Int64} (hW : zW w M ad σ μ th o) (hI : zI σ) (x : Int32) : zw_C w la yX1_matters cX1_matters 3 (Option.some Jvm.ClassFile.FieldType.int) (zr 8 1 6) [.ref (ad 0 0 0), .int x] M (zw_pi (zPo w ad μ th o (zop_matters σ x))) (zPx ["java/lang/IndexOutOfBoundsException"] w ad σ μ th o (zop_matters σ x)) := by
  refine zw_enter RX1 rfl (by decide) hl (by simp [Value.category]) (Nat.le_of_ble_eq_true rfl) (fun X hXl hXw K hE htab hcon => ?_)
  subst hXl; subst hXw
  show zw_Z X _ 0 0 0 [some (.ref (ad 0 0 0)), some (.int x), none] []
  refine zw_aload_n (v := .ref (ad 0 0 0)) (pc' := 1) K dX1_matters_0 rfl rfl rfl ?_
  refine zg_X1_32 (v := .ref (ad 2 0 0)) (pc' := 4) K hW.c0 rfl dX1_matters_1 rfl ?_
  refine zw_iload_n (x := x) (pc' := 5) K dX1_matters_4 rfl rfl ?_
  refine zc_X1_86 (rest := []) (c' := 1) (n' := 6) (pc' := 8) K (ct_X1_at hl M (ad 2 0 0) (zg σ) x hW.c2 (by have := hI.g; omega)) rfl rfl dX1_matters_5 rfl (Nat.le_of_ble_eq_true rfl) ⟨Nat.le_of_ble_eq_true rfl, Nat.le_of_ble_eq_true rfl⟩ ⟨Nat.le_of_ble_eq_true rfl, Nat.le_of_ble_eq_true rfl, Nat.le_of_ble_eq_true rfl, Nat.le_of_ble_eq_true rfl⟩ (zw_kr fun r M1 h => ?_) (fun E M1 h => ?_)
  · obtain ⟨hr, h1, hM⟩ := h
    have hM := hM.symm
    subst hM
    obtain ⟨j, hj, ej⟩ := zin_of h1 (by have := hI.g; omega)
    subst ej
    have hr : r = some (ad 20 j 0) := by rw [hr, zx_n (by have := hI.g; omega)]
    subst hr
    refine zw_cast (ci := 4) (pc' := 11) K rfl q536 (hW.c20 hj) dX1_matters_8 rfl ?_
    refine zw_astore_n (lv' := [some (.ref (ad 0 0 0)), some (.int (nI j)), some (.ref (ad 20 j 0))]) (pc' := 12) K dX1_matters_11 rfl (by decide) rfl rfl ?_
    refine zw_aload_n (v := .ref (ad 20 j 0)) (pc' := 13) K dX1_matters_12 rfl rfl rfl ?_
    refine zg_X1_181 (v := .ref (ad 22 j 0)) (pc' := 16) K (hW.c20 hj) rfl dX1_matters_13 rfl ?_
    refine zc_X1_1 (rest := []) (c' := 1) (n' := 6) (pc' := 21) K (ct_J2_size hl M (ad 22 j 0) (hW.c22 hj)) (hW.c22 hj) rfl rfl dX1_matters_16 rfl (Nat.le_of_ble_eq_true rfl) ⟨Nat.le_of_ble_eq_true rfl, Nat.le_of_ble_eq_true rfl⟩ ⟨Nat.le_of_ble_eq_true rfl, Nat.le_of_ble_eq_true rfl, Nat.le_of_ble_eq_true rfl, Nat.le_of_ble_eq_true rfl⟩ (zw_kp ?_) zw_kn
    exact zw_iret K hE dX1_matters_21 ⟨Nat.le_of_ble_eq_true rfl, Nat.le_of_ble_eq_true rfl⟩ (zPo.mk (by unfold zop_matters; rw [if_pos h1, zx_n (by have := hI.g; omega)]) hW.x)
  · obtain ⟨h0, h1, hM⟩ := h
    have hM := hM.symm
    subst h0; subst hM
    exact zw_out K hE htab ⟨Nat.le_of_ble_eq_true rfl, Nat.le_of_ble_eq_true rfl⟩ (zPx.mk 0 (c := 1) (by simp [zop_matters, h1]) (by decide) rfl hW)
set_option maxHeartbeats 2000000 in
theorem ct_X1_firstTeller {w : zw_W} {la : Launch} (hl : la.stackTraces = false) {M : zw_M} {ad : Nat → Nat → Nat → Nat} {σ μ : zS} {th : Int32} {o : Int64} (hW : zW w M ad σ μ th o) (hI : zI σ) (x : Int32) : zw_C w la yX1_firstTeller cX1_firstTeller 3 (Option.some Jvm.ClassFile.FieldType.int) (zr 8 1 6) [.ref (ad 0 0 0), .int x] M (zw_pi (zPo w ad μ th o (zop_firstTeller σ x))) (zPx ["java/lang/IndexOutOfBoundsException"] w ad σ μ th o (zop_firstTeller σ x)) := by
  refine zw_enter RX1 rfl (by decide) hl (by simp [Value.category]) (Nat.le_of_ble_eq_true rfl) (fun X hXl hXw K hE htab hcon => ?_)
  subst hXl; subst hXw
  show zw_Z X _ 0 0 0 [some (.ref (ad 0 0 0)), some (.int x), none] []
  refine zw_aload_n (v := .ref (ad 0 0 0)) (pc' := 1) K dX1_firstTeller_0 rfl rfl rfl ?_
  refine zg_X1_32 (v := .ref (ad 2 0 0)) (pc' := 4) K hW.c0 rfl dX1_firstTeller_1 rfl ?_
  refine zw_iload_n (x := x) (pc' := 5) K dX1_firstTeller_4 rfl rfl ?_
  refine zc_X1_86 (rest := []) (c' := 1) (n' := 6) (pc' := 8) K (ct_X1_at hl M (ad 2 0 0) (zg σ) x hW.c2 (by have := hI.g; omega)) rfl rfl dX1_firstTeller_5 rfl (Nat.le_of_ble_eq_true rfl) ⟨Nat.le_of_ble_eq_true rfl, Nat.le_of_ble_eq_true rfl⟩ ⟨Nat.le_of_ble_eq_true rfl, Nat.le_of_ble_eq_true rfl, Nat.le_of_ble_eq_true rfl, Nat.le_of_ble_eq_true rfl⟩ (zw_kr fun r M1 h => ?_) (fun E M1 h => ?_)
  · obtain ⟨hr, h1, hM⟩ := h
    have hM := hM.symm
    subst hM
    obtain ⟨j, hj, ej⟩ := zin_of h1 (by have := hI.g; omega)
    subst ej
    have hr : r = some (ad 20 j 0) := by rw [hr, zx_n (by have := hI.g; omega)]
    subst hr
    refine zw_cast (ci := 4) (pc' := 11) K rfl q536 (hW.c20 hj) dX1_firstTeller_8 rfl ?_
    refine zw_astore_n (lv' := [some (.ref (ad 0 0 0)), some (.int (nI j)), some (.ref (ad 20 j 0))]) (pc' := 12) K dX1_firstTeller_11 rfl (by decide) rfl rfl ?_
    refine zw_aload_n (v := .ref (ad 20 j 0)) (pc' := 13) K dX1_firstTeller_12 rfl rfl rfl ?_
    refine zg_X1_205 (v := .int (zv σ 9 j)) (pc' := 16) K (hW.c20 hj) rfl dX1_firstTeller_13 rfl ?_
    exact zw_iret K hE dX1_firstTeller_16 ⟨Nat.le_of_ble_eq_true rfl, Nat.le_of_ble_eq_true rfl⟩ (zPo.mk (by unfold zop_firstTeller; rw [if_pos h1, zx_n (by have := hI.g; omega)]) hW.x)
  · obtain ⟨h0, h1, hM⟩ := h
    have hM := hM.symm
    subst h0; subst hM
    exact zw_out K hE htab ⟨Nat.le_of_ble_eq_true rfl, Nat.le_of_ble_eq_true rfl⟩ (zPx.mk 0 (c := 1) (by simp [zop_firstTeller, h1]) (by decide) rfl hW)
/-- one of a file's pair is a bidder -/
theorem zof_bid {σ : zS} (hI : zI σ) {f : Nat} (hf : f < zg σ) {b : Int32} (h : (b == zv σ 7 f || b == zv σ 8 f) = true) : ∃ k, k < 7 ∧ b = nI k := by
  obtain ⟨⟨x, y, h1, h2, h3, h4⟩, -⟩ := hI.fi hf
  rw [Bool.or_eq_true] at h
  rcases h with h | h
  · exact ⟨x, by omega, (eq_of_beq h).trans h3⟩
  · exact ⟨y, h2, (eq_of_beq h).trans h4⟩
theorem zpr_side {σ : zS} {v f k : Nat} (hk : k < 7) (h : (nI k == zv σ 7 f || nI k == zv σ 8 f) = true) : zpr σ v f k = zv σ v (zside σ f (nI k)) := by
  unfold zpr zside
  rw [if_pos hk]
  by_cases q : nI k = zv σ 7 f
  · rw [if_pos q, if_pos q]; rfl
  · rw [if_neg q, if_neg q]
    rw [Bool.or_eq_true] at h
    rcases h with h | h
    · exact absurd (eq_of_beq h) q
    · rw [if_pos (eq_of_beq h)]
set_option maxHeartbeats 2000000 in
theorem ct_X1_fine {w : zw_W} {la : Launch} (hl : la.stackTraces = false) {M : zw_M} {ad : Nat → Nat → Nat → Nat} {σ μ : zS} {th : Int32} {o : Int64} (hW : zW w M ad σ μ th o) (hI : zI σ) (x b : Int32) : zw_C w la yX1_fine cX1_fine 4 (Option.some Jvm.ClassFile.FieldType.int) (zr 8 2 12) [.ref (ad 0 0 0), .int x, .int b] M (zw_pi (zPo w ad μ th o (zop_fine σ x b))) (zPx ["java/lang/IndexOutOfBoundsException", "java/lang/IllegalArgumentException"] w ad σ μ th o (zop_fine σ x b)) := by
  refine zw_enter RX1 rfl (by decide) hl (by simp [Value.category]) (Nat.le_of_ble_eq_true rfl) (fun X hXl hXw K hE htab hcon => ?_)
  subst hXl; subst hXw
  show zw_Z X _ 0 0 0 [some (.ref (ad 0 0 0)), some (.int x), some (.int b), none] []
  refine zw_aload_n (v := .ref (ad 0 0 0)) (pc' := 1) K dX1_fine_0 rfl rfl rfl ?_
  refine zg_X1_32 (v := .ref (ad 2 0 0)) (pc' := 4) K hW.c0 rfl dX1_fine_1 rfl ?_
  refine zw_iload_n (x := x) (pc' := 5) K dX1_fine_4 rfl rfl ?_
  refine zc_X1_86 (rest := []) (c' := 1) (n' := 6) (pc' := 8) K (ct_X1_at hl M (ad 2 0 0) (zg σ) x hW.c2 (by have := hI.g; omega)) rfl rfl dX1_fine_5 rfl (Nat.le_of_ble_eq_true rfl) ⟨Nat.le_of_ble_eq_true rfl, Nat.le_of_ble_eq_true rfl⟩ ⟨Nat.le_of_ble_eq_true rfl, Nat.le_of_ble_eq_true rfl, Nat.le_of_ble_eq_true rfl, Nat.le_of_ble_eq_true rfl⟩ (zw_kr fun r M1 h => ?_) (fun E M1 h => ?_)
  · obtain ⟨hr, h1, hM⟩ := h
    have hM := hM.symm
    subst hM
    obtain ⟨j, hj, ej⟩ := zin_of h1 (by have := hI.g; omega)
    subst ej
    have hr : r = some (ad 20 j 0) := by rw [hr, zx_n (by have := hI.g; omega)]
    subst hr
    refine zw_cast (ci := 4) (pc' := 11) K rfl q536 (hW.c20 hj) dX1_fine_8 rfl ?_
    refine zw_astore_n (lv' := [some (.ref (ad 0 0 0)), some (.int (nI j)), some (.int b), some (.ref (ad 20 j 0))]) (pc' := 12) K dX1_fine_11 rfl (by decide) rfl rfl ?_
    refine zw_aload_n (v := .ref (ad 20 j 0)) (pc' := 13) K dX1_fine_12 rfl rfl rfl ?_
    refine zw_iload_n (x := b) (pc' := 14) K dX1_fine_13 rfl rfl ?_
    refine zc_X1_189 (rest := []) (c' := 2) (n' := 12) (pc' := 17) K (ct_X1_belongs hl M (ad 20 j 0) b (hW.c20 hj) (hW.c21 hj)) rfl rfl dX1_fine_14 rfl (Nat.le_of_ble_eq_true rfl) ⟨Nat.le_of_ble_eq_true rfl, Nat.le_of_ble_eq_true rfl⟩ ⟨Nat.le_of_ble_eq_true rfl, Nat.le_of_ble_eq_true rfl, Nat.le_of_ble_eq_true rfl, Nat.le_of_ble_eq_true rfl⟩ (zw_kv fun M1 h => ?_) (fun E M1 h => ?_)
    · obtain ⟨h2, hM⟩ := h
      have hM := hM.symm
      subst hM
      obtain ⟨k, hk, ek⟩ := zof_bid hI hj h2
      subst ek
      refine zw_aload_n (v := .ref (ad 20 j 0)) (pc' := 18) K dX1_fine_17 rfl rfl rfl ?_
      refine zg_X1_214 (v := .ref (ad 25 j 0)) (pc' := 21) K (hW.c20 hj) rfl dX1_fine_18 rfl ?_
      refine zw_iload_n (x := (nI k)) (pc' := 22) K dX1_fine_21 rfl rfl ?_
      refine zn_iald (j := k) (v := ((zpr σ 11 j) k)) (pc' := 23) K (hW.c25 hj) rfl hk rfl dX1_fine_22 rfl ?_
      exact zw_iret K hE dX1_fine_23 ⟨Nat.le_of_ble_eq_true rfl, Nat.le_of_ble_eq_true rfl⟩ (zPo.mk (by unfold zop_fine; rw [if_neg (by simp [h1]), zx_n (by have := hI.g; omega), if_pos (show zof σ j (nI k) = true from h2), zpr_side hk h2]) hW.x)
    · obtain ⟨h0, h2, hM⟩ := h
      have hM := hM.symm
      subst h0; subst hM
      exact zw_out K hE htab ⟨Nat.le_of_ble_eq_true rfl, Nat.le_of_ble_eq_true rfl⟩ (zPx.mk 1 (c := 2) (by unfold zop_fine; rw [if_neg (by simp [h1]), zx_n (by have := hI.g; omega), if_neg (by rw [show zof σ j b = false from h2]; decide)]) (by decide) rfl hW)
  · obtain ⟨h0, h1, hM⟩ := h
    have hM := hM.symm
    subst h0; subst hM
    exact zw_out K hE htab ⟨Nat.le_of_ble_eq_true rfl, Nat.le_of_ble_eq_true rfl⟩ (zPx.mk 0 (c := 1) (by simp [zop_fine, h1]) (by decide) rfl hW)
