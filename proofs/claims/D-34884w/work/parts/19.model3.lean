/-! CartelWatchModel: the calls of the law, first part -/
set_option maxRecDepth 100000
set_option maxHeartbeats 2000000 in
theorem ct_X2_open {w : zw_W} {l : Launch} (hl : l.stackTraces = false) {M : zw_M} {ad : Nat → Nat → Nat → Nat} {σ μ : zS} {th : Int32} {o : Int64} (hW : zW w M ad σ μ th o) (hI : zI μ)  : zw_C w l yX2_open cX2_open 1 (Option.some Jvm.ClassFile.FieldType.int) (zr 3 0 0) [.ref (ad 100 0 0)] M (zw_pi fun r M1 => r = (zop_tender μ).1 ∧ zW w M1 ad σ (zop_tender μ).2.2 (zop_tender μ).2.1 o) zw_no := by
  refine zw_enter RX2 rfl (by decide) hl (by simp [Value.category]) (Nat.le_of_ble_eq_true rfl) (fun X hXl hXw K hE htab hcon => ?_)
  subst hXl; subst hXw
  show zw_Z X _ 0 0 0 [some (.ref (ad 100 0 0))] []
  refine zw_aload_n (v := .ref (ad 100 0 0)) (pc' := 1) K dX2_open_0 rfl rfl rfl ?_
  refine zw_iconst (v := 0) (pc' := 2) K dX2_open_1 (by decide) rfl ?_
  refine zp_X2_60 (v := .int 0) (pc' := 5) K hW.mo rfl rfl (by simp [zmob]) dX2_open_2 rfl ?_
  refine zw_nmM (fun M1 eM1 => ?_)
  have hW2 : zW (zw_Xw X) M1 ad σ μ 0 o := by rw [eM1]; exact hW.pth
  refine zw_aload_n (v := .ref (ad 100 0 0)) (pc' := 6) K dX2_open_5 rfl rfl rfl ?_
  refine zg_X2_67 (v := .int (nI (zn μ))) (pc' := 9) K hW2.mo rfl dX2_open_6 rfl ?_
  refine zw_bipush (v := 30) (pc' := 11) K dX2_open_9 (by decide) rfl ?_
  refine zw_icmp_ne (tgt := 20) (pc' := 14) K dX2_open_11 (by decide) rfl (fun c11 => ?_) (fun c11 => ?_)
  · have hn30 : ¬ zn μ = 30 := fun q => c11 (by rw [q]; rfl)
    refine zw_aload_n (v := .ref (ad 100 0 0)) (pc' := 21) K dX2_open_20 rfl rfl rfl ?_
    refine zg_X2_16 (v := .ref (ad 103 0 0)) (pc' := 24) K hW2.mo rfl dX2_open_21 rfl ?_
    refine zw_aload_n (v := .ref (ad 100 0 0)) (pc' := 25) K dX2_open_24 rfl rfl rfl ?_
    refine zg_X2_67 (v := .int (nI (zn μ))) (pc' := 28) K hW2.mo rfl dX2_open_25 rfl ?_
    refine zw_iconst (v := (-1)) (pc' := 29) K dX2_open_28 (by decide) rfl ?_
    refine zn_iast (j := zn μ) (pc' := 30) K hW2.m2 rfl (by have := hI.n; omega) dX2_open_29 rfl ?_
    refine zw_nmM (fun M3 eM3 => ?_)
    have hW4 : zW (zw_Xw X) M3 ad σ (zset μ 2 (zn μ) (-1)) 0 o := by rw [eM3]; exact hW2.p2
    refine zw_aload_n (v := .ref (ad 100 0 0)) (pc' := 31) K dX2_open_30 rfl rfl rfl ?_
    refine zw_dup (pc' := 32) K dX2_open_31 rfl rfl ?_
    refine zg_X2_67 (v := .int (nI (zn μ))) (pc' := 35) K hW4.mo rfl dX2_open_32 rfl ?_
    refine zw_iconst (v := 1) (pc' := 36) K dX2_open_35 (by decide) rfl ?_
    refine zw_iadd (pc' := 37) K dX2_open_36 rfl ?_
    refine zp_X2_67 (v := .int ((nI (zn μ)) + 1)) (pc' := 40) K hW4.mo rfl rfl (by simp [zmob]) dX2_open_37 rfl ?_
    refine zw_nmM (fun M5 eM5 => ?_)
    have hW6 : zW (zw_Xw X) M5 ad σ (zsetn (zset μ 2 (zn μ) (-1)) (zn μ + 1)) 0 o := by rw [eM5, nI_1]; exact hW4.pn
    refine zw_aload_n (v := .ref (ad 100 0 0)) (pc' := 41) K dX2_open_40 rfl rfl rfl ?_
    refine zg_X2_67 (v := .int (nI (zn μ + 1))) (pc' := 44) K hW6.mo rfl dX2_open_41 rfl ?_
    refine zw_iconst (v := 1) (pc' := 45) K dX2_open_44 (by decide) rfl ?_
    refine zw_isub (pc' := 46) K dX2_open_45 rfl ?_
    exact zw_iret K hE dX2_open_46 ⟨Nat.le_of_ble_eq_true rfl, Nat.le_of_ble_eq_true rfl⟩ (by rw [show zop_tender μ = ((nI (zn μ + 1)) - 1, 0, zsetn (zset μ 2 (zn μ) (-1)) (zn μ + 1)) from by simp [zop_tender, nI_pred, hn30, c11]]; exact ⟨rfl, hW6⟩)
  · have hn30 : zn μ = 30 := (nI_eq (b := 30) (by have := hI.n; omega) (by decide)).mp c11
    refine zw_aload_n (v := .ref (ad 100 0 0)) (pc' := 15) K dX2_open_14 rfl rfl rfl ?_
    refine zw_iconst (v := 1) (pc' := 16) K dX2_open_15 (by decide) rfl ?_
    refine zc_X2_77 (rest := []) (c' := 0) (n' := 0) (pc' := 19) K (ct_X2_fails hl hW2 1) hW2.mo rfl rfl dX2_open_16 rfl (Nat.le_of_ble_eq_true rfl) ⟨Nat.le_of_ble_eq_true rfl, Nat.le_of_ble_eq_true rfl⟩ ⟨Nat.le_of_ble_eq_true rfl, Nat.le_of_ble_eq_true rfl, Nat.le_of_ble_eq_true rfl, Nat.le_of_ble_eq_true rfl⟩ (zw_ki fun r M1 h => ?_) zw_kn
    obtain ⟨rfl, hW7⟩ := h
    exact zw_iret K hE dX2_open_19 ⟨Nat.le_of_ble_eq_true rfl, Nat.le_of_ble_eq_true rfl⟩ (by rw [show zop_tender μ = (0, 1, μ) from by simp [zop_tender, nI_pred, hn30, c11]]; exact ⟨rfl, hW7⟩)
set_option maxHeartbeats 2000000 in
theorem ct_X2_bid {w : zw_W} {l : Launch} (hl : l.stackTraces = false) {M : zw_M} {ad : Nat → Nat → Nat → Nat} {σ μ : zS} {th : Int32} {o : Int64} (hW : zW w M ad σ μ th o) (hI : zI μ) (t b x : Int32) : zw_C w l yX2_bid cX2_bid 4 (Option.some Jvm.ClassFile.FieldType.int) (zr 3 0 0) [.ref (ad 100 0 0), .int t, .int b, .int x] M (zw_pi fun r M1 => r = (zop_bid μ t b x).1 ∧ zW w M1 ad σ (zop_bid μ t b x).2.2 (zop_bid μ t b x).2.1 o) zw_no := by
  refine zw_enter RX2 rfl (by decide) hl (by simp [Value.category]) (Nat.le_of_ble_eq_true rfl) (fun X hXl hXw K hE htab hcon => ?_)
  subst hXl; subst hXw
  show zw_Z X _ 0 0 0 [some (.ref (ad 100 0 0)), some (.int t), some (.int b), some (.int x)] []
  refine zw_aload_n (v := .ref (ad 100 0 0)) (pc' := 1) K dX2_bid_0 rfl rfl rfl ?_
  refine zw_iconst (v := 0) (pc' := 2) K dX2_bid_1 (by decide) rfl ?_
  refine zp_X2_60 (v := .int 0) (pc' := 5) K hW.mo rfl rfl (by simp [zmob]) dX2_bid_2 rfl ?_
  refine zw_nmM (fun M1 eM1 => ?_)
  have hW2 : zW (zw_Xw X) M1 ad σ μ 0 o := by rw [eM1]; exact hW.pth
  refine zw_aload_n (v := .ref (ad 100 0 0)) (pc' := 6) K dX2_bid_5 rfl rfl rfl ?_
  refine zw_iload_n (x := t) (pc' := 7) K dX2_bid_6 rfl rfl ?_
  refine zc_X2_85 (rest := []) (c' := 0) (n' := 0) (pc' := 10) K (ct_X2_isTender hl hW2 t hI.n) hW2.mo rfl rfl dX2_bid_7 rfl (Nat.le_of_ble_eq_true rfl) ⟨Nat.le_of_ble_eq_true rfl, Nat.le_of_ble_eq_true rfl⟩ ⟨Nat.le_of_ble_eq_true rfl, Nat.le_of_ble_eq_true rfl, Nat.le_of_ble_eq_true rfl, Nat.le_of_ble_eq_true rfl⟩ (zw_kp ?_) zw_kn
  refine zw_if_ne (tgt := 19) (pc' := 13) K dX2_bid_10 (by decide) rfl (fun c10 => ?_) (fun c10 => ?_)
  · have c10 := zb_nz.mp c10
    obtain ⟨i, hi, rfl⟩ := zin_of c10 (by have := hI.n; have := hI.g; omega)
    have xe_i : zx (nI i) = i := zx_n (by have := hI.n; have := hI.g; omega)
    refine zw_iload_n (x := b) (pc' := 20) K dX2_bid_19 rfl rfl ?_
    refine zc_X2_73 (rest := []) (c' := 0) (n' := 0) (pc' := 23) K (ct_X2_isBidder hl M1 b) rfl rfl dX2_bid_20 rfl (Nat.le_of_ble_eq_true rfl) ⟨Nat.le_of_ble_eq_true rfl, Nat.le_of_ble_eq_true rfl⟩ ⟨Nat.le_of_ble_eq_true rfl, Nat.le_of_ble_eq_true rfl, Nat.le_of_ble_eq_true rfl, Nat.le_of_ble_eq_true rfl⟩ (zw_kp ?_) zw_kn
    refine zw_if_eq (tgt := 36) (pc' := 26) K dX2_bid_23 (by decide) rfl (fun c23 => ?_) (fun c23 => ?_)
    · have c23 := zb_0.mp c23
      refine zw_aload_n (v := .ref (ad 100 0 0)) (pc' := 37) K dX2_bid_36 rfl rfl rfl ?_
      refine zw_iconst (v := 2) (pc' := 38) K dX2_bid_37 (by decide) rfl ?_
      refine zc_X2_77 (rest := []) (c' := 0) (n' := 0) (pc' := 41) K (ct_X2_fails hl hW2 2) hW2.mo rfl rfl dX2_bid_38 rfl (Nat.le_of_ble_eq_true rfl) ⟨Nat.le_of_ble_eq_true rfl, Nat.le_of_ble_eq_true rfl⟩ ⟨Nat.le_of_ble_eq_true rfl, Nat.le_of_ble_eq_true rfl, Nat.le_of_ble_eq_true rfl, Nat.le_of_ble_eq_true rfl⟩ (zw_ki fun r M1 h => ?_) zw_kn
      obtain ⟨rfl, hW3⟩ := h
      exact zw_iret K hE dX2_bid_41 ⟨Nat.le_of_ble_eq_true rfl, Nat.le_of_ble_eq_true rfl⟩ (by rw [show zop_bid μ (nI i) b x = (0, 2, μ) from by simp [zop_bid, zmo, Int32.not_le, xe_i, c10, c23]]; exact ⟨rfl, hW3⟩)
    · have c23 := zb_nz.mp c23
      refine zw_iload_n (x := x) (pc' := 27) K dX2_bid_26 rfl rfl ?_
      refine zw_iconst (v := 1) (pc' := 28) K dX2_bid_27 (by decide) rfl ?_
      refine zw_ldc (v := 100000) (pc' := 30) K q761 dX2_bid_28 rfl ?_
      refine zc_X2_63 (rest := []) (c' := 0) (n' := 0) (pc' := 33) K (ct_X2_in hl M1 x 1 100000) rfl rfl dX2_bid_30 rfl (Nat.le_of_ble_eq_true rfl) ⟨Nat.le_of_ble_eq_true rfl, Nat.le_of_ble_eq_true rfl⟩ ⟨Nat.le_of_ble_eq_true rfl, Nat.le_of_ble_eq_true rfl, Nat.le_of_ble_eq_true rfl, Nat.le_of_ble_eq_true rfl⟩ (zw_kp ?_) zw_kn
      refine zw_if_ne (tgt := 42) (pc' := 36) K dX2_bid_33 (by decide) rfl (fun c33 => ?_) (fun c33 => ?_)
      · have c33 := zb_nz.mp c33
        obtain ⟨j, hj, rfl⟩ := zin_of c23 (by have := hI.n; have := hI.g; omega)
        have xe_j : zx (nI j) = j := zx_n (by have := hI.n; have := hI.g; omega)
        refine zw_aload_n (v := .ref (ad 100 0 0)) (pc' := 43) K dX2_bid_42 rfl rfl rfl ?_
        refine zg_X2_7 (v := .ref (ad 101 0 0)) (pc' := 46) K hW2.mo rfl dX2_bid_43 rfl ?_
        refine zw_iload_n (x := (nI i)) (pc' := 47) K dX2_bid_46 rfl rfl ?_
        refine zn_iald (j := i) (v := ((zv μ 0) i)) (pc' := 48) K hW2.m0 rfl (by have := hI.n; have := hI.g; omega) rfl dX2_bid_47 rfl ?_
        refine zw_if_ne (tgt := 65) (pc' := 51) K dX2_bid_48 (by decide) rfl (fun c48 => ?_) (fun c48 => ?_)
        · refine zw_aload_n (v := .ref (ad 100 0 0)) (pc' := 66) K dX2_bid_65 rfl rfl rfl ?_
          refine zw_iconst (v := 3) (pc' := 67) K dX2_bid_66 (by decide) rfl ?_
          refine zc_X2_77 (rest := []) (c' := 0) (n' := 0) (pc' := 70) K (ct_X2_fails hl hW2 3) hW2.mo rfl rfl dX2_bid_67 rfl (Nat.le_of_ble_eq_true rfl) ⟨Nat.le_of_ble_eq_true rfl, Nat.le_of_ble_eq_true rfl⟩ ⟨Nat.le_of_ble_eq_true rfl, Nat.le_of_ble_eq_true rfl, Nat.le_of_ble_eq_true rfl, Nat.le_of_ble_eq_true rfl⟩ (zw_ki fun r M1 h => ?_) zw_kn
          obtain ⟨rfl, hW4⟩ := h
          exact zw_iret K hE dX2_bid_70 ⟨Nat.le_of_ble_eq_true rfl, Nat.le_of_ble_eq_true rfl⟩ (by rw [show zop_bid μ (nI i) (nI j) x = (0, 3, μ) from by simp [zop_bid, zmo, Int32.not_le, xe_i, xe_j, c10, c23, c33, c48]]; exact ⟨rfl, hW4⟩)
        · refine zw_aload_n (v := .ref (ad 100 0 0)) (pc' := 52) K dX2_bid_51 rfl rfl rfl ?_
          refine zg_X2_22 (v := .ref (ad 105 0 0)) (pc' := 55) K hW2.mo rfl dX2_bid_52 rfl ?_
          refine zw_bipush (v := 7) (pc' := 57) K dX2_bid_55 (by decide) rfl ?_
          refine zw_iload_n (x := (nI i)) (pc' := 58) K dX2_bid_57 rfl rfl ?_
          refine zw_imul (pc' := 59) K dX2_bid_58 rfl ?_
          refine zw_iload_n (x := (nI j)) (pc' := 60) K dX2_bid_59 rfl rfl ?_
          refine zw_iadd (pc' := 61) K dX2_bid_60 rfl ?_
          refine zn_iald (j := 7 * i + j) (v := ((zv μ 4) (7 * i + j))) (pc' := 62) K hW2.m4 (zx_7 i j) (by have := hI.n; have := hI.g; omega) rfl dX2_bid_61 rfl ?_
          refine zw_if_le (tgt := 71) (pc' := 65) K dX2_bid_62 (by decide) rfl (fun c62 => ?_) (fun c62 => ?_)
          · refine zw_aload_n (v := .ref (ad 100 0 0)) (pc' := 72) K dX2_bid_71 rfl rfl rfl ?_
            refine zg_X2_22 (v := .ref (ad 105 0 0)) (pc' := 75) K hW2.mo rfl dX2_bid_72 rfl ?_
            refine zw_bipush (v := 7) (pc' := 77) K dX2_bid_75 (by decide) rfl ?_
            refine zw_iload_n (x := (nI i)) (pc' := 78) K dX2_bid_77 rfl rfl ?_
            refine zw_imul (pc' := 79) K dX2_bid_78 rfl ?_
            refine zw_iload_n (x := (nI j)) (pc' := 80) K dX2_bid_79 rfl rfl ?_
            refine zw_iadd (pc' := 81) K dX2_bid_80 rfl ?_
            refine zw_iload_n (x := x) (pc' := 82) K dX2_bid_81 rfl rfl ?_
            refine zn_iast (j := 7 * i + j) (pc' := 83) K hW2.m4 (zx_7 i j) (by have := hI.n; have := hI.g; omega) dX2_bid_82 rfl ?_
            refine zw_nmM (fun M5 eM5 => ?_)
            have hW6 : zW (zw_Xw X) M5 ad σ (zset μ 4 (7 * i + j) x) 0 o := by rw [eM5]; exact hW2.p4
            refine zw_aload_n (v := .ref (ad 100 0 0)) (pc' := 84) K dX2_bid_83 rfl rfl rfl ?_
            refine zw_iload_n (x := (nI i)) (pc' := 85) K dX2_bid_84 rfl rfl ?_
            refine zc_X2_89 (rest := []) (c' := 0) (n' := 0) (pc' := 88) K (ct_X2_countBids hl hW6 i (by have := hI.n; have := hI.g; omega)) hW6.mo rfl rfl dX2_bid_85 rfl (Nat.le_of_ble_eq_true rfl) ⟨Nat.le_of_ble_eq_true rfl, Nat.le_of_ble_eq_true rfl⟩ ⟨Nat.le_of_ble_eq_true rfl, Nat.le_of_ble_eq_true rfl, Nat.le_of_ble_eq_true rfl, Nat.le_of_ble_eq_true rfl⟩ (zw_kp ?_) zw_kn
            exact zw_iret K hE dX2_bid_88 ⟨Nat.le_of_ble_eq_true rfl, Nat.le_of_ble_eq_true rfl⟩ (by rw [show zop_bid μ (nI i) (nI j) x = (zcount (zset μ 4 (7 * i + j) x) i, 0, zset μ 4 (7 * i + j) x) from by simp [zop_bid, zmo, Int32.not_le, xe_i, xe_j, c10, c23, c33, c48, c62]]; exact ⟨rfl, hW6⟩)
          · refine zw_aload_n (v := .ref (ad 100 0 0)) (pc' := 66) K dX2_bid_65 rfl rfl rfl ?_
            refine zw_iconst (v := 3) (pc' := 67) K dX2_bid_66 (by decide) rfl ?_
            refine zc_X2_77 (rest := []) (c' := 0) (n' := 0) (pc' := 70) K (ct_X2_fails hl hW2 3) hW2.mo rfl rfl dX2_bid_67 rfl (Nat.le_of_ble_eq_true rfl) ⟨Nat.le_of_ble_eq_true rfl, Nat.le_of_ble_eq_true rfl⟩ ⟨Nat.le_of_ble_eq_true rfl, Nat.le_of_ble_eq_true rfl, Nat.le_of_ble_eq_true rfl, Nat.le_of_ble_eq_true rfl⟩ (zw_ki fun r M1 h => ?_) zw_kn
            obtain ⟨rfl, hW7⟩ := h
            exact zw_iret K hE dX2_bid_70 ⟨Nat.le_of_ble_eq_true rfl, Nat.le_of_ble_eq_true rfl⟩ (by rw [show zop_bid μ (nI i) (nI j) x = (0, 3, μ) from by simp [zop_bid, zmo, Int32.not_le, xe_i, xe_j, c10, c23, c33, c48, c62]]; exact ⟨rfl, hW7⟩)
      · have c33 := zb_0.mp c33
        refine zw_aload_n (v := .ref (ad 100 0 0)) (pc' := 37) K dX2_bid_36 rfl rfl rfl ?_
        refine zw_iconst (v := 2) (pc' := 38) K dX2_bid_37 (by decide) rfl ?_
        refine zc_X2_77 (rest := []) (c' := 0) (n' := 0) (pc' := 41) K (ct_X2_fails hl hW2 2) hW2.mo rfl rfl dX2_bid_38 rfl (Nat.le_of_ble_eq_true rfl) ⟨Nat.le_of_ble_eq_true rfl, Nat.le_of_ble_eq_true rfl⟩ ⟨Nat.le_of_ble_eq_true rfl, Nat.le_of_ble_eq_true rfl, Nat.le_of_ble_eq_true rfl, Nat.le_of_ble_eq_true rfl⟩ (zw_ki fun r M1 h => ?_) zw_kn
        obtain ⟨rfl, hW8⟩ := h
        exact zw_iret K hE dX2_bid_41 ⟨Nat.le_of_ble_eq_true rfl, Nat.le_of_ble_eq_true rfl⟩ (by rw [show zop_bid μ (nI i) b x = (0, 2, μ) from by simp [zop_bid, zmo, Int32.not_le, xe_i, c10, c23, c33]]; exact ⟨rfl, hW8⟩)
  · have c10 := zb_0.mp c10
    refine zw_aload_n (v := .ref (ad 100 0 0)) (pc' := 14) K dX2_bid_13 rfl rfl rfl ?_
    refine zw_iconst (v := 1) (pc' := 15) K dX2_bid_14 (by decide) rfl ?_
    refine zc_X2_77 (rest := []) (c' := 0) (n' := 0) (pc' := 18) K (ct_X2_fails hl hW2 1) hW2.mo rfl rfl dX2_bid_15 rfl (Nat.le_of_ble_eq_true rfl) ⟨Nat.le_of_ble_eq_true rfl, Nat.le_of_ble_eq_true rfl⟩ ⟨Nat.le_of_ble_eq_true rfl, Nat.le_of_ble_eq_true rfl, Nat.le_of_ble_eq_true rfl, Nat.le_of_ble_eq_true rfl⟩ (zw_ki fun r M1 h => ?_) zw_kn
    obtain ⟨rfl, hW9⟩ := h
    exact zw_iret K hE dX2_bid_18 ⟨Nat.le_of_ble_eq_true rfl, Nat.le_of_ble_eq_true rfl⟩ (by rw [show zop_bid μ t b x = (0, 1, μ) from by simp [zop_bid, zmo, Int32.not_le, c10]]; exact ⟨rfl, hW9⟩)
set_option maxHeartbeats 2000000 in
theorem ct_X2_withdraw {w : zw_W} {l : Launch} (hl : l.stackTraces = false) {M : zw_M} {ad : Nat → Nat → Nat → Nat} {σ μ : zS} {th : Int32} {o : Int64} (hW : zW w M ad σ μ th o) (hI : zI μ) (t b : Int32) : zw_C w l yX2_withdraw cX2_withdraw 3 (Option.some Jvm.ClassFile.FieldType.int) (zr 3 0 0) [.ref (ad 100 0 0), .int t, .int b] M (zw_pi fun r M1 => r = (zop_withdraw μ t b).1 ∧ zW w M1 ad σ (zop_withdraw μ t b).2.2 (zop_withdraw μ t b).2.1 o) zw_no := by
  refine zw_enter RX2 rfl (by decide) hl (by simp [Value.category]) (Nat.le_of_ble_eq_true rfl) (fun X hXl hXw K hE htab hcon => ?_)
  subst hXl; subst hXw
  show zw_Z X _ 0 0 0 [some (.ref (ad 100 0 0)), some (.int t), some (.int b)] []
  refine zw_aload_n (v := .ref (ad 100 0 0)) (pc' := 1) K dX2_withdraw_0 rfl rfl rfl ?_
  refine zw_iconst (v := 0) (pc' := 2) K dX2_withdraw_1 (by decide) rfl ?_
  refine zp_X2_60 (v := .int 0) (pc' := 5) K hW.mo rfl rfl (by simp [zmob]) dX2_withdraw_2 rfl ?_
  refine zw_nmM (fun M1 eM1 => ?_)
  have hW2 : zW (zw_Xw X) M1 ad σ μ 0 o := by rw [eM1]; exact hW.pth
  refine zw_aload_n (v := .ref (ad 100 0 0)) (pc' := 6) K dX2_withdraw_5 rfl rfl rfl ?_
  refine zw_iload_n (x := t) (pc' := 7) K dX2_withdraw_6 rfl rfl ?_
  refine zc_X2_85 (rest := []) (c' := 0) (n' := 0) (pc' := 10) K (ct_X2_isTender hl hW2 t hI.n) hW2.mo rfl rfl dX2_withdraw_7 rfl (Nat.le_of_ble_eq_true rfl) ⟨Nat.le_of_ble_eq_true rfl, Nat.le_of_ble_eq_true rfl⟩ ⟨Nat.le_of_ble_eq_true rfl, Nat.le_of_ble_eq_true rfl, Nat.le_of_ble_eq_true rfl, Nat.le_of_ble_eq_true rfl⟩ (zw_kp ?_) zw_kn
  refine zw_if_ne (tgt := 19) (pc' := 13) K dX2_withdraw_10 (by decide) rfl (fun c10 => ?_) (fun c10 => ?_)
  · have c10 := zb_nz.mp c10
    obtain ⟨i, hi, rfl⟩ := zin_of c10 (by have := hI.n; have := hI.g; omega)
    have xe_i : zx (nI i) = i := zx_n (by have := hI.n; have := hI.g; omega)
    refine zw_iload_n (x := b) (pc' := 20) K dX2_withdraw_19 rfl rfl ?_
    refine zc_X2_73 (rest := []) (c' := 0) (n' := 0) (pc' := 23) K (ct_X2_isBidder hl M1 b) rfl rfl dX2_withdraw_20 rfl (Nat.le_of_ble_eq_true rfl) ⟨Nat.le_of_ble_eq_true rfl, Nat.le_of_ble_eq_true rfl⟩ ⟨Nat.le_of_ble_eq_true rfl, Nat.le_of_ble_eq_true rfl, Nat.le_of_ble_eq_true rfl, Nat.le_of_ble_eq_true rfl⟩ (zw_kp ?_) zw_kn
    refine zw_if_ne (tgt := 32) (pc' := 26) K dX2_withdraw_23 (by decide) rfl (fun c23 => ?_) (fun c23 => ?_)
    · have c23 := zb_nz.mp c23
      obtain ⟨j, hj, rfl⟩ := zin_of c23 (by have := hI.n; have := hI.g; omega)
      have xe_j : zx (nI j) = j := zx_n (by have := hI.n; have := hI.g; omega)
      refine zw_aload_n (v := .ref (ad 100 0 0)) (pc' := 33) K dX2_withdraw_32 rfl rfl rfl ?_
      refine zg_X2_7 (v := .ref (ad 101 0 0)) (pc' := 36) K hW2.mo rfl dX2_withdraw_33 rfl ?_
      refine zw_iload_n (x := (nI i)) (pc' := 37) K dX2_withdraw_36 rfl rfl ?_
      refine zn_iald (j := i) (v := ((zv μ 0) i)) (pc' := 38) K hW2.m0 rfl (by have := hI.n; have := hI.g; omega) rfl dX2_withdraw_37 rfl ?_
      refine zw_if_ne (tgt := 50) (pc' := 41) K dX2_withdraw_38 (by decide) rfl (fun c38 => ?_) (fun c38 => ?_)
      · refine zw_aload_n (v := .ref (ad 100 0 0)) (pc' := 51) K dX2_withdraw_50 rfl rfl rfl ?_
        refine zw_iconst (v := 3) (pc' := 52) K dX2_withdraw_51 (by decide) rfl ?_
        refine zc_X2_77 (rest := []) (c' := 0) (n' := 0) (pc' := 55) K (ct_X2_fails hl hW2 3) hW2.mo rfl rfl dX2_withdraw_52 rfl (Nat.le_of_ble_eq_true rfl) ⟨Nat.le_of_ble_eq_true rfl, Nat.le_of_ble_eq_true rfl⟩ ⟨Nat.le_of_ble_eq_true rfl, Nat.le_of_ble_eq_true rfl, Nat.le_of_ble_eq_true rfl, Nat.le_of_ble_eq_true rfl⟩ (zw_ki fun r M1 h => ?_) zw_kn
        obtain ⟨rfl, hW3⟩ := h
        exact zw_iret K hE dX2_withdraw_55 ⟨Nat.le_of_ble_eq_true rfl, Nat.le_of_ble_eq_true rfl⟩ (by rw [show zop_withdraw μ (nI i) (nI j) = (0, 3, μ) from by simp [zop_withdraw, xe_i, xe_j, c10, c23, c38]]; exact ⟨rfl, hW3⟩)
      · refine zw_aload_n (v := .ref (ad 100 0 0)) (pc' := 42) K dX2_withdraw_41 rfl rfl rfl ?_
        refine zw_iload_n (x := (nI i)) (pc' := 43) K dX2_withdraw_42 rfl rfl ?_
        refine zw_iload_n (x := (nI j)) (pc' := 44) K dX2_withdraw_43 rfl rfl ?_
        refine zc_X2_81 (rest := []) (c' := 0) (n' := 0) (pc' := 47) K (ct_X2_stands hl hW2 i j (by have := hI.n; have := hI.g; omega) hj) hW2.mo rfl rfl dX2_withdraw_44 rfl (Nat.le_of_ble_eq_true rfl) ⟨Nat.le_of_ble_eq_true rfl, Nat.le_of_ble_eq_true rfl⟩ ⟨Nat.le_of_ble_eq_true rfl, Nat.le_of_ble_eq_true rfl, Nat.le_of_ble_eq_true rfl, Nat.le_of_ble_eq_true rfl⟩ (zw_kp ?_) zw_kn
        refine zw_if_ne (tgt := 56) (pc' := 50) K dX2_withdraw_47 (by decide) rfl (fun c47 => ?_) (fun c47 => ?_)
        · have c47 := zb_nz.mp c47
          refine zw_aload_n (v := .ref (ad 100 0 0)) (pc' := 57) K dX2_withdraw_56 rfl rfl rfl ?_
          refine zg_X2_25 (v := .ref (ad 106 0 0)) (pc' := 60) K hW2.mo rfl dX2_withdraw_57 rfl ?_
          refine zw_bipush (v := 7) (pc' := 62) K dX2_withdraw_60 (by decide) rfl ?_
          refine zw_iload_n (x := (nI i)) (pc' := 63) K dX2_withdraw_62 rfl rfl ?_
          refine zw_imul (pc' := 64) K dX2_withdraw_63 rfl ?_
          refine zw_iload_n (x := (nI j)) (pc' := 65) K dX2_withdraw_64 rfl rfl ?_
          refine zw_iadd (pc' := 66) K dX2_withdraw_65 rfl ?_
          refine zw_iconst (v := 1) (pc' := 67) K dX2_withdraw_66 (by decide) rfl ?_
          refine zn_zast (j := 7 * i + j) (pc' := 68) K hW2.m5 (zx_7 i j) (by have := hI.n; have := hI.g; omega) rfl dX2_withdraw_67 rfl ?_
          refine zw_nmM (fun M4 eM4 => ?_)
          have hW5 : zW (zw_Xw X) M4 ad σ (zset μ 5 (7 * i + j) 1) 0 o := by rw [eM4]; exact hW2.p5
          refine zw_aload_n (v := .ref (ad 100 0 0)) (pc' := 69) K dX2_withdraw_68 rfl rfl rfl ?_
          refine zg_X2_22 (v := .ref (ad 105 0 0)) (pc' := 72) K hW5.mo rfl dX2_withdraw_69 rfl ?_
          refine zw_bipush (v := 7) (pc' := 74) K dX2_withdraw_72 (by decide) rfl ?_
          refine zw_iload_n (x := (nI i)) (pc' := 75) K dX2_withdraw_74 rfl rfl ?_
          refine zw_imul (pc' := 76) K dX2_withdraw_75 rfl ?_
          refine zw_iload_n (x := (nI j)) (pc' := 77) K dX2_withdraw_76 rfl rfl ?_
          refine zw_iadd (pc' := 78) K dX2_withdraw_77 rfl ?_
          refine zn_iald (j := 7 * i + j) (v := (zv μ 4 (7 * i + j))) (pc' := 79) K hW5.m4 (zx_7 i j) (by have := hI.n; have := hI.g; omega) rfl dX2_withdraw_78 rfl ?_
          exact zw_iret K hE dX2_withdraw_79 ⟨Nat.le_of_ble_eq_true rfl, Nat.le_of_ble_eq_true rfl⟩ (by rw [show zop_withdraw μ (nI i) (nI j) = (zv μ 4 (7 * i + j), 0, zset μ 5 (7 * i + j) 1) from by simp [zop_withdraw, xe_i, xe_j, c10, c23, c38, c47]]; exact ⟨rfl, hW5⟩)
        · have c47 := zb_0.mp c47
          refine zw_aload_n (v := .ref (ad 100 0 0)) (pc' := 51) K dX2_withdraw_50 rfl rfl rfl ?_
          refine zw_iconst (v := 3) (pc' := 52) K dX2_withdraw_51 (by decide) rfl ?_
          refine zc_X2_77 (rest := []) (c' := 0) (n' := 0) (pc' := 55) K (ct_X2_fails hl hW2 3) hW2.mo rfl rfl dX2_withdraw_52 rfl (Nat.le_of_ble_eq_true rfl) ⟨Nat.le_of_ble_eq_true rfl, Nat.le_of_ble_eq_true rfl⟩ ⟨Nat.le_of_ble_eq_true rfl, Nat.le_of_ble_eq_true rfl, Nat.le_of_ble_eq_true rfl, Nat.le_of_ble_eq_true rfl⟩ (zw_ki fun r M1 h => ?_) zw_kn
          obtain ⟨rfl, hW6⟩ := h
          exact zw_iret K hE dX2_withdraw_55 ⟨Nat.le_of_ble_eq_true rfl, Nat.le_of_ble_eq_true rfl⟩ (by rw [show zop_withdraw μ (nI i) (nI j) = (0, 3, μ) from by simp [zop_withdraw, xe_i, xe_j, c10, c23, c38, c47]]; exact ⟨rfl, hW6⟩)
    · have c23 := zb_0.mp c23
      refine zw_aload_n (v := .ref (ad 100 0 0)) (pc' := 27) K dX2_withdraw_26 rfl rfl rfl ?_
      refine zw_iconst (v := 2) (pc' := 28) K dX2_withdraw_27 (by decide) rfl ?_
      refine zc_X2_77 (rest := []) (c' := 0) (n' := 0) (pc' := 31) K (ct_X2_fails hl hW2 2) hW2.mo rfl rfl dX2_withdraw_28 rfl (Nat.le_of_ble_eq_true rfl) ⟨Nat.le_of_ble_eq_true rfl, Nat.le_of_ble_eq_true rfl⟩ ⟨Nat.le_of_ble_eq_true rfl, Nat.le_of_ble_eq_true rfl, Nat.le_of_ble_eq_true rfl, Nat.le_of_ble_eq_true rfl⟩ (zw_ki fun r M1 h => ?_) zw_kn
      obtain ⟨rfl, hW7⟩ := h
      exact zw_iret K hE dX2_withdraw_31 ⟨Nat.le_of_ble_eq_true rfl, Nat.le_of_ble_eq_true rfl⟩ (by rw [show zop_withdraw μ (nI i) b = (0, 2, μ) from by simp [zop_withdraw, xe_i, c10, c23]]; exact ⟨rfl, hW7⟩)
  · have c10 := zb_0.mp c10
    refine zw_aload_n (v := .ref (ad 100 0 0)) (pc' := 14) K dX2_withdraw_13 rfl rfl rfl ?_
    refine zw_iconst (v := 1) (pc' := 15) K dX2_withdraw_14 (by decide) rfl ?_
    refine zc_X2_77 (rest := []) (c' := 0) (n' := 0) (pc' := 18) K (ct_X2_fails hl hW2 1) hW2.mo rfl rfl dX2_withdraw_15 rfl (Nat.le_of_ble_eq_true rfl) ⟨Nat.le_of_ble_eq_true rfl, Nat.le_of_ble_eq_true rfl⟩ ⟨Nat.le_of_ble_eq_true rfl, Nat.le_of_ble_eq_true rfl, Nat.le_of_ble_eq_true rfl, Nat.le_of_ble_eq_true rfl⟩ (zw_ki fun r M1 h => ?_) zw_kn
    obtain ⟨rfl, hW8⟩ := h
    exact zw_iret K hE dX2_withdraw_18 ⟨Nat.le_of_ble_eq_true rfl, Nat.le_of_ble_eq_true rfl⟩ (by rw [show zop_withdraw μ t b = (0, 1, μ) from by simp [zop_withdraw, c10]]; exact ⟨rfl, hW8⟩)
set_option maxHeartbeats 2000000 in
theorem ct_X2_turnover {w : zw_W} {l : Launch} (hl : l.stackTraces = false) {M : zw_M} {ad : Nat → Nat → Nat → Nat} {σ μ : zS} {th : Int32} {o : Int64} (hW : zW w M ad σ μ th o) (hI : zI μ) (b : Int32) : zw_C w l yX2_turnover cX2_turnover 2 (Option.some Jvm.ClassFile.FieldType.int) (zr 4 0 0) [.ref (ad 100 0 0), .int b] M (zw_pi fun r M1 => r = (zop_turnover μ b).1 ∧ zW w M1 ad σ (zop_turnover μ b).2.2 (zop_turnover μ b).2.1 o) zw_no := by
  refine zw_enter RX2 rfl (by decide) hl (by simp [Value.category]) (Nat.le_of_ble_eq_true rfl) (fun X hXl hXw K hE htab hcon => ?_)
  subst hXl; subst hXw
  show zw_Z X _ 0 0 0 [some (.ref (ad 100 0 0)), some (.int b)] []
  refine zw_aload_n (v := .ref (ad 100 0 0)) (pc' := 1) K dX2_turnover_0 rfl rfl rfl ?_
  refine zw_iconst (v := 0) (pc' := 2) K dX2_turnover_1 (by decide) rfl ?_
  refine zp_X2_60 (v := .int 0) (pc' := 5) K hW.mo rfl rfl (by simp [zmob]) dX2_turnover_2 rfl ?_
  refine zw_nmM (fun M1 eM1 => ?_)
  have hW2 : zW (zw_Xw X) M1 ad σ μ 0 o := by rw [eM1]; exact hW.pth
  refine zw_iload_n (x := b) (pc' := 6) K dX2_turnover_5 rfl rfl ?_
  refine zc_X2_73 (rest := []) (c' := 0) (n' := 0) (pc' := 9) K (ct_X2_isBidder hl M1 b) rfl rfl dX2_turnover_6 rfl (Nat.le_of_ble_eq_true rfl) ⟨Nat.le_of_ble_eq_true rfl, Nat.le_of_ble_eq_true rfl⟩ ⟨Nat.le_of_ble_eq_true rfl, Nat.le_of_ble_eq_true rfl, Nat.le_of_ble_eq_true rfl, Nat.le_of_ble_eq_true rfl⟩ (zw_kp ?_) zw_kn
  refine zw_if_eq (tgt := 20) (pc' := 12) K dX2_turnover_9 (by decide) rfl (fun c9 => ?_) (fun c9 => ?_)
  · have c9 := zb_0.mp c9
    refine zw_aload_n (v := .ref (ad 100 0 0)) (pc' := 21) K dX2_turnover_20 rfl rfl rfl ?_
    refine zw_iconst (v := 1) (pc' := 22) K dX2_turnover_21 (by decide) rfl ?_
    refine zc_X2_77 (rest := []) (c' := 0) (n' := 0) (pc' := 25) K (ct_X2_fails hl hW2 1) hW2.mo rfl rfl dX2_turnover_22 rfl (Nat.le_of_ble_eq_true rfl) ⟨Nat.le_of_ble_eq_true rfl, Nat.le_of_ble_eq_true rfl⟩ ⟨Nat.le_of_ble_eq_true rfl, Nat.le_of_ble_eq_true rfl, Nat.le_of_ble_eq_true rfl, Nat.le_of_ble_eq_true rfl⟩ (zw_ki fun r M1 h => ?_) zw_kn
    obtain ⟨rfl, hW3⟩ := h
    exact zw_iret K hE dX2_turnover_25 ⟨Nat.le_of_ble_eq_true rfl, Nat.le_of_ble_eq_true rfl⟩ (by rw [show zop_turnover μ b = (0, 1, μ) from by simp [zop_turnover, c9]]; exact ⟨rfl, hW3⟩)
  · have c9 := zb_nz.mp c9
    refine zw_aload_n (v := .ref (ad 100 0 0)) (pc' := 13) K dX2_turnover_12 rfl rfl rfl ?_
    refine zw_iload_n (x := b) (pc' := 14) K dX2_turnover_13 rfl rfl ?_
    refine zc_X2_95 (rest := []) (c' := 0) (n' := 0) (pc' := 17) K (ct_X2_turnoverOf hl hW2 hI.j b) hW2.mo rfl rfl dX2_turnover_14 rfl (Nat.le_of_ble_eq_true rfl) ⟨Nat.le_of_ble_eq_true rfl, Nat.le_of_ble_eq_true rfl⟩ ⟨Nat.le_of_ble_eq_true rfl, Nat.le_of_ble_eq_true rfl, Nat.le_of_ble_eq_true rfl, Nat.le_of_ble_eq_true rfl⟩ (zw_kp ?_) zw_kn
    refine zw_goto (tgt := 25) K dX2_turnover_17 (by decide) ?_
    exact zw_iret K hE dX2_turnover_25 ⟨Nat.le_of_ble_eq_true rfl, Nat.le_of_ble_eq_true rfl⟩ (by rw [show zop_turnover μ b = (zturn μ b, 0, μ) from by simp [zop_turnover, c9]]; exact ⟨rfl, hW2⟩)
set_option maxHeartbeats 2000000 in
theorem ct_X2_suspicion {w : zw_W} {l : Launch} (hl : l.stackTraces = false) {M : zw_M} {ad : Nat → Nat → Nat → Nat} {σ μ : zS} {th : Int32} {o : Int64} (hW : zW w M ad σ μ th o) (hI : zI μ) (a b : Int32) : zw_C w l yX2_suspicion cX2_suspicion 3 (Option.some Jvm.ClassFile.FieldType.int) (zr 5 0 0) [.ref (ad 100 0 0), .int a, .int b] M (zw_pi fun r M1 => r = (zop_suspicion μ a b).1 ∧ zW w M1 ad σ (zop_suspicion μ a b).2.2 (zop_suspicion μ a b).2.1 o) zw_no := by
  refine zw_enter RX2 rfl (by decide) hl (by simp [Value.category]) (Nat.le_of_ble_eq_true rfl) (fun X hXl hXw K hE htab hcon => ?_)
  subst hXl; subst hXw
  show zw_Z X _ 0 0 0 [some (.ref (ad 100 0 0)), some (.int a), some (.int b)] []
  refine zw_aload_n (v := .ref (ad 100 0 0)) (pc' := 1) K dX2_suspicion_0 rfl rfl rfl ?_
  refine zw_iconst (v := 0) (pc' := 2) K dX2_suspicion_1 (by decide) rfl ?_
  refine zp_X2_60 (v := .int 0) (pc' := 5) K hW.mo rfl rfl (by simp [zmob]) dX2_suspicion_2 rfl ?_
  refine zw_nmM (fun M1 eM1 => ?_)
  have hW2 : zW (zw_Xw X) M1 ad σ μ 0 o := by rw [eM1]; exact hW.pth
  refine zw_iload_n (x := a) (pc' := 6) K dX2_suspicion_5 rfl rfl ?_
  refine zw_iload_n (x := b) (pc' := 7) K dX2_suspicion_6 rfl rfl ?_
  refine zc_X2_105 (rest := []) (c' := 0) (n' := 0) (pc' := 10) K (ct_X2_isPair hl M1 a b) rfl rfl dX2_suspicion_7 rfl (Nat.le_of_ble_eq_true rfl) ⟨Nat.le_of_ble_eq_true rfl, Nat.le_of_ble_eq_true rfl⟩ ⟨Nat.le_of_ble_eq_true rfl, Nat.le_of_ble_eq_true rfl, Nat.le_of_ble_eq_true rfl, Nat.le_of_ble_eq_true rfl⟩ (zw_kp ?_) zw_kn
  refine zw_if_eq (tgt := 22) (pc' := 13) K dX2_suspicion_10 (by decide) rfl (fun c10 => ?_) (fun c10 => ?_)
  · have c10 := zb_0.mp c10
    refine zw_aload_n (v := .ref (ad 100 0 0)) (pc' := 23) K dX2_suspicion_22 rfl rfl rfl ?_
    refine zw_iconst (v := 1) (pc' := 24) K dX2_suspicion_23 (by decide) rfl ?_
    refine zc_X2_77 (rest := []) (c' := 0) (n' := 0) (pc' := 27) K (ct_X2_fails hl hW2 1) hW2.mo rfl rfl dX2_suspicion_24 rfl (Nat.le_of_ble_eq_true rfl) ⟨Nat.le_of_ble_eq_true rfl, Nat.le_of_ble_eq_true rfl⟩ ⟨Nat.le_of_ble_eq_true rfl, Nat.le_of_ble_eq_true rfl, Nat.le_of_ble_eq_true rfl, Nat.le_of_ble_eq_true rfl⟩ (zw_ki fun r M1 h => ?_) zw_kn
    obtain ⟨rfl, hW3⟩ := h
    exact zw_iret K hE dX2_suspicion_27 ⟨Nat.le_of_ble_eq_true rfl, Nat.le_of_ble_eq_true rfl⟩ (by rw [show zop_suspicion μ a b = (0, 1, μ) from by simp [zop_suspicion, c10]]; exact ⟨rfl, hW3⟩)
  · have c10 := zb_nz.mp c10
    obtain ⟨ja, jb, hja, hjb, rfl, rfl, hab⟩ := zpair_of c10
    refine zw_aload_n (v := .ref (ad 100 0 0)) (pc' := 14) K dX2_suspicion_13 rfl rfl rfl ?_
    refine zw_iload_n (x := (nI ja)) (pc' := 15) K dX2_suspicion_14 rfl rfl ?_
    refine zw_iload_n (x := (nI jb)) (pc' := 16) K dX2_suspicion_15 rfl rfl ?_
    refine zc_X2_108 (rest := []) (c' := 0) (n' := 0) (pc' := 19) K (ct_X2_suspicionOf hl hW2 hI.j ja jb hja hjb) hW2.mo rfl rfl dX2_suspicion_16 rfl (Nat.le_of_ble_eq_true rfl) ⟨Nat.le_of_ble_eq_true rfl, Nat.le_of_ble_eq_true rfl⟩ ⟨Nat.le_of_ble_eq_true rfl, Nat.le_of_ble_eq_true rfl, Nat.le_of_ble_eq_true rfl, Nat.le_of_ble_eq_true rfl⟩ (zw_kp ?_) zw_kn
    refine zw_goto (tgt := 27) K dX2_suspicion_19 (by decide) ?_
    exact zw_iret K hE dX2_suspicion_27 ⟨Nat.le_of_ble_eq_true rfl, Nat.le_of_ble_eq_true rfl⟩ (by rw [show zop_suspicion μ (nI ja) (nI jb) = (zsusp μ (nI ja) (nI jb), 0, μ) from by simp [zop_suspicion, c10]]; exact ⟨rfl, hW2⟩)
set_option maxHeartbeats 2000000 in
theorem ct_X2_sign {w : zw_W} {l : Launch} (hl : l.stackTraces = false) {M : zw_M} {ad : Nat → Nat → Nat → Nat} {σ μ : zS} {th : Int32} {o : Int64} (hW : zW w M ad σ μ th o) (hI : zI μ) (t a b : Int32) : zw_C w l yX2_sign cX2_sign 4 (Option.some Jvm.ClassFile.FieldType.int) (zr 5 0 0) [.ref (ad 100 0 0), .int t, .int a, .int b] M (zw_pi fun r M1 => r = (zop_sign μ t a b).1 ∧ zW w M1 ad σ (zop_sign μ t a b).2.2 (zop_sign μ t a b).2.1 o) zw_no := by
  refine zw_enter RX2 rfl (by decide) hl (by simp [Value.category]) (Nat.le_of_ble_eq_true rfl) (fun X hXl hXw K hE htab hcon => ?_)
  subst hXl; subst hXw
  show zw_Z X _ 0 0 0 [some (.ref (ad 100 0 0)), some (.int t), some (.int a), some (.int b)] []
  refine zw_aload_n (v := .ref (ad 100 0 0)) (pc' := 1) K dX2_sign_0 rfl rfl rfl ?_
  refine zw_iconst (v := 0) (pc' := 2) K dX2_sign_1 (by decide) rfl ?_
  refine zp_X2_60 (v := .int 0) (pc' := 5) K hW.mo rfl rfl (by simp [zmob]) dX2_sign_2 rfl ?_
  refine zw_nmM (fun M1 eM1 => ?_)
  have hW2 : zW (zw_Xw X) M1 ad σ μ 0 o := by rw [eM1]; exact hW.pth
  refine zw_aload_n (v := .ref (ad 100 0 0)) (pc' := 6) K dX2_sign_5 rfl rfl rfl ?_
  refine zw_iload_n (x := t) (pc' := 7) K dX2_sign_6 rfl rfl ?_
  refine zc_X2_85 (rest := []) (c' := 0) (n' := 0) (pc' := 10) K (ct_X2_isTender hl hW2 t hI.n) hW2.mo rfl rfl dX2_sign_7 rfl (Nat.le_of_ble_eq_true rfl) ⟨Nat.le_of_ble_eq_true rfl, Nat.le_of_ble_eq_true rfl⟩ ⟨Nat.le_of_ble_eq_true rfl, Nat.le_of_ble_eq_true rfl, Nat.le_of_ble_eq_true rfl, Nat.le_of_ble_eq_true rfl⟩ (zw_kp ?_) zw_kn
  refine zw_if_ne (tgt := 19) (pc' := 13) K dX2_sign_10 (by decide) rfl (fun c10 => ?_) (fun c10 => ?_)
  · have c10 := zb_nz.mp c10
    obtain ⟨i, hi, rfl⟩ := zin_of c10 (by have := hI.n; have := hI.g; omega)
    have xe_i : zx (nI i) = i := zx_n (by have := hI.n; have := hI.g; omega)
    refine zw_iload_n (x := a) (pc' := 20) K dX2_sign_19 rfl rfl ?_
    refine zw_iload_n (x := b) (pc' := 21) K dX2_sign_20 rfl rfl ?_
    refine zc_X2_105 (rest := []) (c' := 0) (n' := 0) (pc' := 24) K (ct_X2_isPair hl M1 a b) rfl rfl dX2_sign_21 rfl (Nat.le_of_ble_eq_true rfl) ⟨Nat.le_of_ble_eq_true rfl, Nat.le_of_ble_eq_true rfl⟩ ⟨Nat.le_of_ble_eq_true rfl, Nat.le_of_ble_eq_true rfl, Nat.le_of_ble_eq_true rfl, Nat.le_of_ble_eq_true rfl⟩ (zw_kp ?_) zw_kn
    refine zw_if_eq (tgt := 37) (pc' := 27) K dX2_sign_24 (by decide) rfl (fun c24 => ?_) (fun c24 => ?_)
    · have c24 := zb_0.mp c24
      refine zw_aload_n (v := .ref (ad 100 0 0)) (pc' := 38) K dX2_sign_37 rfl rfl rfl ?_
      refine zw_iconst (v := 2) (pc' := 39) K dX2_sign_38 (by decide) rfl ?_
      refine zc_X2_77 (rest := []) (c' := 0) (n' := 0) (pc' := 42) K (ct_X2_fails hl hW2 2) hW2.mo rfl rfl dX2_sign_39 rfl (Nat.le_of_ble_eq_true rfl) ⟨Nat.le_of_ble_eq_true rfl, Nat.le_of_ble_eq_true rfl⟩ ⟨Nat.le_of_ble_eq_true rfl, Nat.le_of_ble_eq_true rfl, Nat.le_of_ble_eq_true rfl, Nat.le_of_ble_eq_true rfl⟩ (zw_ki fun r M1 h => ?_) zw_kn
      obtain ⟨rfl, hW3⟩ := h
      exact zw_iret K hE dX2_sign_42 ⟨Nat.le_of_ble_eq_true rfl, Nat.le_of_ble_eq_true rfl⟩ (by rw [show zop_sign μ (nI i) a b = (0, 2, μ) from by simp [zop_sign, xe_i, c10, c24]]; exact ⟨rfl, hW3⟩)
    · have c24 := zb_nz.mp c24
      obtain ⟨ja, jb, hja, hjb, rfl, rfl, hab⟩ := zpair_of c24
      refine zw_aload_n (v := .ref (ad 100 0 0)) (pc' := 28) K dX2_sign_27 rfl rfl rfl ?_
      refine zw_iload_n (x := (nI i)) (pc' := 29) K dX2_sign_28 rfl rfl ?_
      refine zw_iload_n (x := (nI ja)) (pc' := 30) K dX2_sign_29 rfl rfl ?_
      refine zw_iload_n (x := (nI jb)) (pc' := 31) K dX2_sign_30 rfl rfl ?_
      refine zc_X2_101 (rest := []) (c' := 0) (n' := 0) (pc' := 34) K (ct_X2_signOf hl hW2 hI.j i ja jb hi hja hjb) hW2.mo rfl rfl dX2_sign_31 rfl (Nat.le_of_ble_eq_true rfl) ⟨Nat.le_of_ble_eq_true rfl, Nat.le_of_ble_eq_true rfl⟩ ⟨Nat.le_of_ble_eq_true rfl, Nat.le_of_ble_eq_true rfl, Nat.le_of_ble_eq_true rfl, Nat.le_of_ble_eq_true rfl⟩ (zw_kp ?_) zw_kn
      refine zw_goto (tgt := 42) K dX2_sign_34 (by decide) ?_
      exact zw_iret K hE dX2_sign_42 ⟨Nat.le_of_ble_eq_true rfl, Nat.le_of_ble_eq_true rfl⟩ (by rw [show zop_sign μ (nI i) (nI ja) (nI jb) = (zsign μ i (nI ja) (nI jb), 0, μ) from by simp [zop_sign, xe_i, c10, c24]]; exact ⟨rfl, hW2⟩)
  · have c10 := zb_0.mp c10
    refine zw_aload_n (v := .ref (ad 100 0 0)) (pc' := 14) K dX2_sign_13 rfl rfl rfl ?_
    refine zw_iconst (v := 1) (pc' := 15) K dX2_sign_14 (by decide) rfl ?_
    refine zc_X2_77 (rest := []) (c' := 0) (n' := 0) (pc' := 18) K (ct_X2_fails hl hW2 1) hW2.mo rfl rfl dX2_sign_15 rfl (Nat.le_of_ble_eq_true rfl) ⟨Nat.le_of_ble_eq_true rfl, Nat.le_of_ble_eq_true rfl⟩ ⟨Nat.le_of_ble_eq_true rfl, Nat.le_of_ble_eq_true rfl, Nat.le_of_ble_eq_true rfl, Nat.le_of_ble_eq_true rfl⟩ (zw_ki fun r M1 h => ?_) zw_kn
    obtain ⟨rfl, hW4⟩ := h
    exact zw_iret K hE dX2_sign_18 ⟨Nat.le_of_ble_eq_true rfl, Nat.le_of_ble_eq_true rfl⟩ (by rw [show zop_sign μ t a b = (0, 1, μ) from by simp [zop_sign, c10]]; exact ⟨rfl, hW4⟩)
set_option maxHeartbeats 2000000 in
theorem ct_X2_setMark {w : zw_W} {l : Launch} (hl : l.stackTraces = false) {M : zw_M} {ad : Nat → Nat → Nat → Nat} {σ μ : zS} {th : Int32} {o : Int64} (hW : zW w M ad σ μ th o) (hI : zI μ) (x : Int32) : zw_C w l yX2_setMark cX2_setMark 3 (Option.some Jvm.ClassFile.FieldType.int) (zr 3 0 0) [.ref (ad 100 0 0), .int x] M (zw_pi fun r M1 => r = (zop_setMark μ x).1 ∧ zW w M1 ad σ (zop_setMark μ x).2.2 (zop_setMark μ x).2.1 o) zw_no := by
  refine zw_enter RX2 rfl (by decide) hl (by simp [Value.category]) (Nat.le_of_ble_eq_true rfl) (fun X hXl hXw K hE htab hcon => ?_)
  subst hXl; subst hXw
  show zw_Z X _ 0 0 0 [some (.ref (ad 100 0 0)), some (.int x), none] []
  refine zw_aload_n (v := .ref (ad 100 0 0)) (pc' := 1) K dX2_setMark_0 rfl rfl rfl ?_
  refine zw_iconst (v := 0) (pc' := 2) K dX2_setMark_1 (by decide) rfl ?_
  refine zp_X2_60 (v := .int 0) (pc' := 5) K hW.mo rfl rfl (by simp [zmob]) dX2_setMark_2 rfl ?_
  refine zw_nmM (fun M1 eM1 => ?_)
  have hW2 : zW (zw_Xw X) M1 ad σ μ 0 o := by rw [eM1]; exact hW.pth
  refine zw_iload_n (x := x) (pc' := 6) K dX2_setMark_5 rfl rfl ?_
  refine zw_iconst (v := 1) (pc' := 7) K dX2_setMark_6 (by decide) rfl ?_
  refine zw_sipush (v := 1000) (pc' := 10) K dX2_setMark_7 (by decide) rfl ?_
  refine zc_X2_63 (rest := []) (c' := 0) (n' := 0) (pc' := 13) K (ct_X2_in hl M1 x 1 1000) rfl rfl dX2_setMark_10 rfl (Nat.le_of_ble_eq_true rfl) ⟨Nat.le_of_ble_eq_true rfl, Nat.le_of_ble_eq_true rfl⟩ ⟨Nat.le_of_ble_eq_true rfl, Nat.le_of_ble_eq_true rfl, Nat.le_of_ble_eq_true rfl, Nat.le_of_ble_eq_true rfl⟩ (zw_kp ?_) zw_kn
  refine zw_if_ne (tgt := 22) (pc' := 16) K dX2_setMark_13 (by decide) rfl (fun c13 => ?_) (fun c13 => ?_)
  · have c13 := zb_nz.mp c13
    refine zw_aload_n (v := .ref (ad 100 0 0)) (pc' := 23) K dX2_setMark_22 rfl rfl rfl ?_
    refine zg_X2_29 (v := .int (zv μ 6 0)) (pc' := 26) K hW2.mo rfl dX2_setMark_23 rfl ?_
    refine zw_istore_n (lv' := [some (.ref (ad 100 0 0)), some (.int x), some (.int (zv μ 6 0))]) (pc' := 27) K dX2_setMark_26 (by decide) rfl rfl ?_
    refine zw_aload_n (v := .ref (ad 100 0 0)) (pc' := 28) K dX2_setMark_27 rfl rfl rfl ?_
    refine zw_iload_n (x := x) (pc' := 29) K dX2_setMark_28 rfl rfl ?_
    refine zp_X2_29 (v := .int x) (pc' := 32) K hW2.mo rfl rfl (by simp [zmob]) dX2_setMark_29 rfl ?_
    refine zw_nmM (fun M3 eM3 => ?_)
    have hW4 : zW (zw_Xw X) M3 ad σ (zset μ 6 0 x) 0 o := by rw [eM3]; exact hW2.pm
    refine zw_iload_n (x := zv μ 6 0) (pc' := 33) K dX2_setMark_32 rfl rfl ?_
    exact zw_iret K hE dX2_setMark_33 ⟨Nat.le_of_ble_eq_true rfl, Nat.le_of_ble_eq_true rfl⟩ (by rw [show zop_setMark μ x = (zv μ 6 0, 0, zset μ 6 0 x) from by simp [zop_setMark, c13]]; exact ⟨rfl, hW4⟩)
  · have c13 := zb_0.mp c13
    refine zw_aload_n (v := .ref (ad 100 0 0)) (pc' := 17) K dX2_setMark_16 rfl rfl rfl ?_
    refine zw_iconst (v := 1) (pc' := 18) K dX2_setMark_17 (by decide) rfl ?_
    refine zc_X2_77 (rest := []) (c' := 0) (n' := 0) (pc' := 21) K (ct_X2_fails hl hW2 1) hW2.mo rfl rfl dX2_setMark_18 rfl (Nat.le_of_ble_eq_true rfl) ⟨Nat.le_of_ble_eq_true rfl, Nat.le_of_ble_eq_true rfl⟩ ⟨Nat.le_of_ble_eq_true rfl, Nat.le_of_ble_eq_true rfl, Nat.le_of_ble_eq_true rfl, Nat.le_of_ble_eq_true rfl⟩ (zw_ki fun r M1 h => ?_) zw_kn
    obtain ⟨rfl, hW5⟩ := h
    exact zw_iret K hE dX2_setMark_21 ⟨Nat.le_of_ble_eq_true rfl, Nat.le_of_ble_eq_true rfl⟩ (by rw [show zop_setMark μ x = (0, 1, μ) from by simp [zop_setMark, c13]]; exact ⟨rfl, hW5⟩)
set_option maxHeartbeats 2000000 in
theorem ct_X2_won {w : zw_W} {l : Launch} (hl : l.stackTraces = false) {M : zw_M} {ad : Nat → Nat → Nat → Nat} {σ μ : zS} {th : Int32} {o : Int64} (hW : zW w M ad σ μ th o) (hI : zI μ) (b : Int32) : zw_C w l yX2_won cX2_won 4 (Option.some Jvm.ClassFile.FieldType.int) (zr 3 0 0) [.ref (ad 100 0 0), .int b] M (zw_pi fun r M1 => r = (zop_won μ b).1 ∧ zW w M1 ad σ (zop_won μ b).2.2 (zop_won μ b).2.1 o) zw_no := by
  refine zw_enter RX2 rfl (by decide) hl (by simp [Value.category]) (Nat.le_of_ble_eq_true rfl) (fun X hXl hXw K hE htab hcon => ?_)
  subst hXl; subst hXw
  show zw_Z X _ 0 0 0 [some (.ref (ad 100 0 0)), some (.int b), none, none] []
  refine zw_aload_n (v := .ref (ad 100 0 0)) (pc' := 1) K dX2_won_0 rfl rfl rfl ?_
  refine zw_iconst (v := 0) (pc' := 2) K dX2_won_1 (by decide) rfl ?_
  refine zp_X2_60 (v := .int 0) (pc' := 5) K hW.mo rfl rfl (by simp [zmob]) dX2_won_2 rfl ?_
  refine zw_nmM (fun M1 eM1 => ?_)
  have hW2 : zW (zw_Xw X) M1 ad σ μ 0 o := by rw [eM1]; exact hW.pth
  refine zw_iload_n (x := b) (pc' := 6) K dX2_won_5 rfl rfl ?_
  refine zc_X2_73 (rest := []) (c' := 0) (n' := 0) (pc' := 9) K (ct_X2_isBidder hl M1 b) rfl rfl dX2_won_6 rfl (Nat.le_of_ble_eq_true rfl) ⟨Nat.le_of_ble_eq_true rfl, Nat.le_of_ble_eq_true rfl⟩ ⟨Nat.le_of_ble_eq_true rfl, Nat.le_of_ble_eq_true rfl, Nat.le_of_ble_eq_true rfl, Nat.le_of_ble_eq_true rfl⟩ (zw_kp ?_) zw_kn
  refine zw_if_ne (tgt := 18) (pc' := 12) K dX2_won_9 (by decide) rfl (fun c9 => ?_) (fun c9 => ?_)
  · have c9 := zb_nz.mp c9
    refine zw_iconst (v := 0) (pc' := 19) K dX2_won_18 (by decide) rfl ?_
    refine zw_istore_n (lv' := [some (.ref (ad 100 0 0)), some (.int b), some (.int 0), none]) (pc' := 20) K dX2_won_19 (by decide) rfl rfl ?_
    refine zw_iconst (v := 0) (pc' := 21) K dX2_won_20 (by decide) rfl ?_
    refine zw_istore_n (lv' := [some (.ref (ad 100 0 0)), some (.int b), some (.int 0), some (.int 0)]) (pc' := 22) K dX2_won_21 (by decide) rfl rfl ?_
    have L22 : ∀ i : Nat, i ≤ zn μ → ∀ (xi : Int32) (acc : Int32), xi = nI i → (acc = zf (zwonF μ b) i 0) → zw_Z X M1 0 0 22 [some (.ref (ad 100 0 0)), some (.int b), some (.int acc), some (.int xi)] [] := by
      refine zl_up (fun i hi22 ih22 => ?_)
      intro xi acc hxi hacc
      refine zw_iload_n (x := xi) (pc' := 23) K dX2_won_22 rfl rfl ?_
      refine zw_aload_n (v := .ref (ad 100 0 0)) (pc' := 24) K dX2_won_23 rfl rfl rfl ?_
      refine zg_X2_67 (v := .int (nI (zn μ))) (pc' := 27) K hW2.mo rfl dX2_won_24 rfl ?_
      refine zw_icmp_ge (tgt := 64) (pc' := 30) K dX2_won_27 (by decide) rfl (fun c27 => ?_) (fun c27 => ?_)
      · have hend22 : i = zn μ := zi_ge hxi rfl hi22 (by have := hI.n; omega) c27
        refine zw_iload_n (x := acc) (pc' := 65) K dX2_won_64 rfl rfl ?_
        exact zw_iret K hE dX2_won_65 ⟨Nat.le_of_ble_eq_true rfl, Nat.le_of_ble_eq_true rfl⟩ (by rw [show zop_won μ b = (acc, 0, μ) from by rw [hacc, hend22]; simp [zop_won, c9]]; exact ⟨rfl, hW2⟩)
      · have hlt22 : i < zn μ := zi_lt hxi rfl hi22 (by have := hI.n; omega) c27
        refine zw_iload_n (x := acc) (pc' := 31) K dX2_won_30 rfl rfl ?_
        refine zw_aload_n (v := .ref (ad 100 0 0)) (pc' := 32) K dX2_won_31 rfl rfl rfl ?_
        refine zg_X2_7 (v := .ref (ad 101 0 0)) (pc' := 35) K hW2.mo rfl dX2_won_32 rfl ?_
        refine zw_iload_n (x := xi) (pc' := 36) K dX2_won_35 rfl rfl ?_
        subst hxi
        refine zn_iald (j := i) (v := ((zv μ 0) i)) (pc' := 37) K hW2.m0 rfl (by have := hI.n; have := hI.g; omega) rfl dX2_won_36 rfl ?_
        refine zw_iconst (v := 1) (pc' := 38) K dX2_won_37 (by decide) rfl ?_
        refine zw_icmp_ne (tgt := 55) (pc' := 41) K dX2_won_38 (by decide) rfl (fun c38 => ?_) (fun c38 => ?_)
        · refine zw_iconst (v := 0) (pc' := 56) K dX2_won_55 (by decide) rfl ?_
          refine zw_iadd (pc' := 57) K dX2_won_56 rfl ?_
          refine zw_istore_n (lv' := [some (.ref (ad 100 0 0)), some (.int b), some (.int (acc + 0)), some (.int (nI i))]) (pc' := 58) K dX2_won_57 (by decide) rfl rfl ?_
          refine zw_iinc (x := (nI i)) (lv' := [some (.ref (ad 100 0 0)), some (.int b), some (.int (acc + 0)), some (.int ((nI i) + 1))]) (pc' := 61) K dX2_won_58 rfl (by decide) rfl rfl ?_
          refine zw_goto (tgt := 22) K dX2_won_61 (by decide) ?_
          exact ih22 hlt22 ((nI i) + 1) (acc + 0) (nI_1 i) (by rw [zf_s, ← hacc]; simp [zwonF, zb, c38])
        · refine zw_aload_n (v := .ref (ad 100 0 0)) (pc' := 42) K dX2_won_41 rfl rfl rfl ?_
          refine zg_X2_13 (v := .ref (ad 102 0 0)) (pc' := 45) K hW2.mo rfl dX2_won_42 rfl ?_
          refine zw_iload_n (x := (nI i)) (pc' := 46) K dX2_won_45 rfl rfl ?_
          refine zn_iald (j := i) (v := ((zv μ 1) i)) (pc' := 47) K hW2.m1 rfl (by have := hI.n; have := hI.g; omega) rfl dX2_won_46 rfl ?_
          refine zw_iload_n (x := b) (pc' := 48) K dX2_won_47 rfl rfl ?_
          refine zw_icmp_ne (tgt := 55) (pc' := 51) K dX2_won_48 (by decide) rfl (fun c48 => ?_) (fun c48 => ?_)
          · refine zw_iconst (v := 0) (pc' := 56) K dX2_won_55 (by decide) rfl ?_
            refine zw_iadd (pc' := 57) K dX2_won_56 rfl ?_
            refine zw_istore_n (lv' := [some (.ref (ad 100 0 0)), some (.int b), some (.int (acc + 0)), some (.int (nI i))]) (pc' := 58) K dX2_won_57 (by decide) rfl rfl ?_
            refine zw_iinc (x := (nI i)) (lv' := [some (.ref (ad 100 0 0)), some (.int b), some (.int (acc + 0)), some (.int ((nI i) + 1))]) (pc' := 61) K dX2_won_58 rfl (by decide) rfl rfl ?_
            refine zw_goto (tgt := 22) K dX2_won_61 (by decide) ?_
            exact ih22 hlt22 ((nI i) + 1) (acc + 0) (nI_1 i) (by rw [zf_s, ← hacc]; simp [zwonF, zb, c38, c48])
          · refine zw_iconst (v := 1) (pc' := 52) K dX2_won_51 (by decide) rfl ?_
            refine zw_goto (tgt := 56) K dX2_won_52 (by decide) ?_
            refine zw_iadd (pc' := 57) K dX2_won_56 rfl ?_
            refine zw_istore_n (lv' := [some (.ref (ad 100 0 0)), some (.int b), some (.int (acc + 1)), some (.int (nI i))]) (pc' := 58) K dX2_won_57 (by decide) rfl rfl ?_
            refine zw_iinc (x := (nI i)) (lv' := [some (.ref (ad 100 0 0)), some (.int b), some (.int (acc + 1)), some (.int ((nI i) + 1))]) (pc' := 61) K dX2_won_58 rfl (by decide) rfl rfl ?_
            refine zw_goto (tgt := 22) K dX2_won_61 (by decide) ?_
            exact ih22 hlt22 ((nI i) + 1) (acc + 1) (nI_1 i) (by rw [zf_s, ← hacc]; simp [zwonF, zb, c38, c48])
    exact L22 0 (Nat.zero_le _) 0 0 rfl rfl
  · have c9 := zb_0.mp c9
    refine zw_aload_n (v := .ref (ad 100 0 0)) (pc' := 13) K dX2_won_12 rfl rfl rfl ?_
    refine zw_iconst (v := 1) (pc' := 14) K dX2_won_13 (by decide) rfl ?_
    refine zc_X2_77 (rest := []) (c' := 0) (n' := 0) (pc' := 17) K (ct_X2_fails hl hW2 1) hW2.mo rfl rfl dX2_won_14 rfl (Nat.le_of_ble_eq_true rfl) ⟨Nat.le_of_ble_eq_true rfl, Nat.le_of_ble_eq_true rfl⟩ ⟨Nat.le_of_ble_eq_true rfl, Nat.le_of_ble_eq_true rfl, Nat.le_of_ble_eq_true rfl, Nat.le_of_ble_eq_true rfl⟩ (zw_ki fun r M1 h => ?_) zw_kn
    obtain ⟨rfl, hW3⟩ := h
    exact zw_iret K hE dX2_won_17 ⟨Nat.le_of_ble_eq_true rfl, Nat.le_of_ble_eq_true rfl⟩ (by rw [show zop_won μ b = (0, 1, μ) from by simp [zop_won, c9]]; exact ⟨rfl, hW3⟩)
set_option maxHeartbeats 2000000 in
theorem ct_X2_award {w : zw_W} {l : Launch} (hl : l.stackTraces = false) {M : zw_M} {ad : Nat → Nat → Nat → Nat} {σ μ : zS} {th : Int32} {o : Int64} (hW : zW w M ad σ μ th o) (hI : zI μ) (t : Int32) : zw_C w l yX2_award cX2_award 5 (Option.some Jvm.ClassFile.FieldType.int) (zr 3 0 0) [.ref (ad 100 0 0), .int t] M (zw_pi fun r M1 => r = (zop_award μ t).1 ∧ zW w M1 ad σ (zop_award μ t).2.2 (zop_award μ t).2.1 o) zw_no := by
  refine zw_enter RX2 rfl (by decide) hl (by simp [Value.category]) (Nat.le_of_ble_eq_true rfl) (fun X hXl hXw K hE htab hcon => ?_)
  subst hXl; subst hXw
  show zw_Z X _ 0 0 0 [some (.ref (ad 100 0 0)), some (.int t), none, none, none] []
  refine zw_aload_n (v := .ref (ad 100 0 0)) (pc' := 1) K dX2_award_0 rfl rfl rfl ?_
  refine zw_iconst (v := 0) (pc' := 2) K dX2_award_1 (by decide) rfl ?_
  refine zp_X2_60 (v := .int 0) (pc' := 5) K hW.mo rfl rfl (by simp [zmob]) dX2_award_2 rfl ?_
  refine zw_nmM (fun M1 eM1 => ?_)
  have hW2 : zW (zw_Xw X) M1 ad σ μ 0 o := by rw [eM1]; exact hW.pth
  refine zw_aload_n (v := .ref (ad 100 0 0)) (pc' := 6) K dX2_award_5 rfl rfl rfl ?_
  refine zw_iload_n (x := t) (pc' := 7) K dX2_award_6 rfl rfl ?_
  refine zc_X2_85 (rest := []) (c' := 0) (n' := 0) (pc' := 10) K (ct_X2_isTender hl hW2 t hI.n) hW2.mo rfl rfl dX2_award_7 rfl (Nat.le_of_ble_eq_true rfl) ⟨Nat.le_of_ble_eq_true rfl, Nat.le_of_ble_eq_true rfl⟩ ⟨Nat.le_of_ble_eq_true rfl, Nat.le_of_ble_eq_true rfl, Nat.le_of_ble_eq_true rfl, Nat.le_of_ble_eq_true rfl⟩ (zw_kp ?_) zw_kn
  refine zw_if_ne (tgt := 19) (pc' := 13) K dX2_award_10 (by decide) rfl (fun c10 => ?_) (fun c10 => ?_)
  · have c10 := zb_nz.mp c10
    obtain ⟨i, hi, rfl⟩ := zin_of c10 (by have := hI.n; have := hI.g; omega)
    have xe_i : zx (nI i) = i := zx_n (by have := hI.n; have := hI.g; omega)
    refine zw_aload_n (v := .ref (ad 100 0 0)) (pc' := 20) K dX2_award_19 rfl rfl rfl ?_
    refine zg_X2_7 (v := .ref (ad 101 0 0)) (pc' := 23) K hW2.mo rfl dX2_award_20 rfl ?_
    refine zw_iload_n (x := (nI i)) (pc' := 24) K dX2_award_23 rfl rfl ?_
    refine zn_iald (j := i) (v := ((zv μ 0) i)) (pc' := 25) K hW2.m0 rfl (by have := hI.n; have := hI.g; omega) rfl dX2_award_24 rfl ?_
    refine zw_if_eq (tgt := 34) (pc' := 28) K dX2_award_25 (by decide) rfl (fun c25 => ?_) (fun c25 => ?_)
    · refine zw_iconst (v := (-1)) (pc' := 35) K dX2_award_34 (by decide) rfl ?_
      refine zw_istore_n (lv' := [some (.ref (ad 100 0 0)), some (.int (nI i)), some (.int (-1)), none, none]) (pc' := 36) K dX2_award_35 (by decide) rfl rfl ?_
      refine zw_iconst (v := 0) (pc' := 37) K dX2_award_36 (by decide) rfl ?_
      refine zw_istore_n (lv' := [some (.ref (ad 100 0 0)), some (.int (nI i)), some (.int (-1)), some (.int 0), none]) (pc' := 38) K dX2_award_37 (by decide) rfl rfl ?_
      have L38 : ∀ k : Nat, k ≤ 7 → ∀ (xi : Int32) (acc : Int32), xi = nI k → (acc = zf (zbestF μ i) k (-1)) → (acc = -1 ∨ ∃ k0, k0 < k ∧ acc = nI k0) → zw_Z X M1 0 0 38 [some (.ref (ad 100 0 0)), some (.int (nI i)), some (.int acc), some (.int xi), none] [] := by
        refine zl_up (fun k hi38 ih38 => ?_)
        intro xi acc hxi hacc hz
        refine zw_iload_n (x := xi) (pc' := 39) K dX2_award_38 rfl rfl ?_
        refine zw_bipush (v := 7) (pc' := 41) K dX2_award_39 (by decide) rfl ?_
        refine zw_icmp_ge (tgt := 107) (pc' := 44) K dX2_award_41 (by decide) rfl (fun c41 => ?_) (fun c41 => ?_)
        · have hend38 : k = 7 := zi_ge hxi (by decide) hi38 (by decide) c41
          refine zw_aload_n (v := .ref (ad 100 0 0)) (pc' := 108) K dX2_award_107 rfl rfl rfl ?_
          refine zg_X2_7 (v := .ref (ad 101 0 0)) (pc' := 111) K hW2.mo rfl dX2_award_108 rfl ?_
          refine zw_iload_n (x := nI i) (pc' := 112) K dX2_award_111 rfl rfl ?_
          refine zw_iload_n (x := acc) (pc' := 113) K dX2_award_112 rfl rfl ?_
          refine zw_iconst (v := (-1)) (pc' := 114) K dX2_award_113 (by decide) rfl ?_
          refine zw_icmp_ne (tgt := 121) (pc' := 117) K dX2_award_114 (by decide) rfl (fun c114 => ?_) (fun c114 => ?_)
          · refine zw_iconst (v := 1) (pc' := 122) K dX2_award_121 (by decide) rfl ?_
            refine zn_iast (j := i) (pc' := 123) K hW2.m0 rfl (by have := hI.n; have := hI.g; omega) dX2_award_122 rfl ?_
            refine zw_nmM (fun M3 eM3 => ?_)
            have hW4 : zW (zw_Xw X) M3 ad σ (zset μ 0 i 1) 0 o := by rw [eM3]; exact hW2.p0
            refine zw_aload_n (v := .ref (ad 100 0 0)) (pc' := 124) K dX2_award_123 rfl rfl rfl ?_
            refine zg_X2_13 (v := .ref (ad 102 0 0)) (pc' := 127) K hW4.mo rfl dX2_award_124 rfl ?_
            refine zw_iload_n (x := nI i) (pc' := 128) K dX2_award_127 rfl rfl ?_
            refine zw_iload_n (x := acc) (pc' := 129) K dX2_award_128 rfl rfl ?_
            refine zn_iast (j := i) (pc' := 130) K hW4.m1 rfl (by have := hI.n; have := hI.g; omega) dX2_award_129 rfl ?_
            refine zw_nmM (fun M5 eM5 => ?_)
            have hW6 : zW (zw_Xw X) M5 ad σ (zset (zset μ 0 i 1) 1 i acc) 0 o := by rw [eM5]; exact hW4.p1
            refine zw_iload_n (x := acc) (pc' := 131) K dX2_award_130 rfl rfl ?_
            exact zw_iret K hE dX2_award_131 ⟨Nat.le_of_ble_eq_true rfl, Nat.le_of_ble_eq_true rfl⟩ (by have eb : acc = zbest μ i := (by rw [hacc, hend38]; rfl); rw [show zop_award μ (nI i) = (acc, 0, zset (zset μ 0 i 1) 1 i acc) from by rw [eb] at c114; simp [zop_award, xe_i, c10, c25, eb, c114]]; exact ⟨rfl, hW6⟩)
          · refine zw_iconst (v := 2) (pc' := 118) K dX2_award_117 (by decide) rfl ?_
            refine zw_goto (tgt := 122) K dX2_award_118 (by decide) ?_
            refine zn_iast (j := i) (pc' := 123) K hW2.m0 rfl (by have := hI.n; have := hI.g; omega) dX2_award_122 rfl ?_
            refine zw_nmM (fun M7 eM7 => ?_)
            have hW8 : zW (zw_Xw X) M7 ad σ (zset μ 0 i 2) 0 o := by rw [eM7]; exact hW2.p0
            refine zw_aload_n (v := .ref (ad 100 0 0)) (pc' := 124) K dX2_award_123 rfl rfl rfl ?_
            refine zg_X2_13 (v := .ref (ad 102 0 0)) (pc' := 127) K hW8.mo rfl dX2_award_124 rfl ?_
            refine zw_iload_n (x := nI i) (pc' := 128) K dX2_award_127 rfl rfl ?_
            refine zw_iload_n (x := acc) (pc' := 129) K dX2_award_128 rfl rfl ?_
            refine zn_iast (j := i) (pc' := 130) K hW8.m1 rfl (by have := hI.n; have := hI.g; omega) dX2_award_129 rfl ?_
            refine zw_nmM (fun M9 eM9 => ?_)
            have hW10 : zW (zw_Xw X) M9 ad σ (zset (zset μ 0 i 2) 1 i acc) 0 o := by rw [eM9]; exact hW8.p1
            refine zw_iload_n (x := acc) (pc' := 131) K dX2_award_130 rfl rfl ?_
            exact zw_iret K hE dX2_award_131 ⟨Nat.le_of_ble_eq_true rfl, Nat.le_of_ble_eq_true rfl⟩ (by have eb : acc = zbest μ i := (by rw [hacc, hend38]; rfl); rw [show zop_award μ (nI i) = (acc, 0, zset (zset μ 0 i 2) 1 i acc) from by rw [eb] at c114; simp [zop_award, xe_i, c10, c25, eb, c114]]; exact ⟨rfl, hW10⟩)
        · have hlt38 : k < 7 := zi_lt hxi (by decide) hi38 (by decide) c41
          subst hxi
          refine zw_iload_n (x := acc) (pc' := 45) K dX2_award_44 rfl rfl ?_
          refine zw_iconst (v := (-1)) (pc' := 46) K dX2_award_45 (by decide) rfl ?_
          refine zw_icmp_eq (tgt := 74) (pc' := 49) K dX2_award_46 (by decide) rfl (fun c46 => ?_) (fun c46 => ?_)
          · refine zw_iconst (v := 1) (pc' := 75) K dX2_award_74 (by decide) rfl ?_
            refine zw_goto (tgt := 79) K dX2_award_75 (by decide) ?_
            refine zw_istore (lv' := [some (.ref (ad 100 0 0)), some (.int (nI i)), some (.int acc), some (.int (nI k)), some (.int 1)]) (pc' := 81) K dX2_award_79 (by decide) rfl rfl ?_
            refine zw_aload_n (v := .ref (ad 100 0 0)) (pc' := 82) K dX2_award_81 rfl rfl rfl ?_
            refine zw_iload_n (x := nI i) (pc' := 83) K dX2_award_82 rfl rfl ?_
            refine zw_iload_n (x := (nI k)) (pc' := 84) K dX2_award_83 rfl rfl ?_
            refine zc_X2_81 (rest := []) (c' := 0) (n' := 0) (pc' := 87) K (ct_X2_stands hl hW2 i k (by have := hI.n; have := hI.g; omega) (by omega)) hW2.mo rfl rfl dX2_award_84 rfl (Nat.le_of_ble_eq_true rfl) ⟨Nat.le_of_ble_eq_true rfl, Nat.le_of_ble_eq_true rfl⟩ ⟨Nat.le_of_ble_eq_true rfl, Nat.le_of_ble_eq_true rfl, Nat.le_of_ble_eq_true rfl, Nat.le_of_ble_eq_true rfl⟩ (zw_kp ?_) zw_kn
            refine zw_if_eq (tgt := 99) (pc' := 90) K dX2_award_87 (by decide) rfl (fun c87 => ?_) (fun c87 => ?_)
            · have c87 := zb_0.mp c87
              refine zw_iload_n (x := acc) (pc' := 100) K dX2_award_99 rfl rfl ?_
              refine zw_istore_n (lv' := [some (.ref (ad 100 0 0)), some (.int (nI i)), some (.int acc), some (.int (nI k)), some (.int 1)]) (pc' := 101) K dX2_award_100 (by decide) rfl rfl ?_
              refine zw_iinc (x := (nI k)) (lv' := [some (.ref (ad 100 0 0)), some (.int (nI i)), some (.int acc), some (.int ((nI k) + 1)), some (.int 1)]) (pc' := 104) K dX2_award_101 rfl (by decide) rfl rfl ?_
              refine zw_goto (tgt := 38) K dX2_award_104 (by decide) ?_
              refine zw_weakL (lv' := [some (.ref (ad 100 0 0)), some (.int (nI i)), some (.int acc), some (.int ((nI k) + 1)), none]) (by simp [zw_le]) ?_
              exact ih38 hlt38 ((nI k) + 1) acc (nI_1 k) (by rw [zf_s, ← hacc]; simp [zbestF, c46, c87]) (by rcases hz with q | ⟨k1, q1, q2⟩; exact Or.inl q; exact Or.inr ⟨k1, by omega, q2⟩)
            · have c87 := zb_nz.mp c87
              refine zw_iload (x := 1) (pc' := 92) K dX2_award_90 rfl rfl ?_
              refine zw_if_eq (tgt := 99) (pc' := 95) K dX2_award_92 (by decide) rfl (fun c92 => absurd c92 (by decide)) (fun c92 => ?_)
              refine zw_iload_n (x := (nI k)) (pc' := 96) K dX2_award_95 rfl rfl ?_
              refine zw_goto (tgt := 100) K dX2_award_96 (by decide) ?_
              refine zw_istore_n (lv' := [some (.ref (ad 100 0 0)), some (.int (nI i)), some (.int (nI k)), some (.int (nI k)), some (.int 1)]) (pc' := 101) K dX2_award_100 (by decide) rfl rfl ?_
              refine zw_iinc (x := (nI k)) (lv' := [some (.ref (ad 100 0 0)), some (.int (nI i)), some (.int (nI k)), some (.int ((nI k) + 1)), some (.int 1)]) (pc' := 104) K dX2_award_101 rfl (by decide) rfl rfl ?_
              refine zw_goto (tgt := 38) K dX2_award_104 (by decide) ?_
              refine zw_weakL (lv' := [some (.ref (ad 100 0 0)), some (.int (nI i)), some (.int (nI k)), some (.int ((nI k) + 1)), none]) (by simp [zw_le]) ?_
              exact ih38 hlt38 ((nI k) + 1) (nI k) (nI_1 k) (by rw [zf_s, ← hacc]; simp [zbestF, c46, c87]) (Or.inr ⟨k, by omega, rfl⟩)
          · obtain ⟨k0, hk0, ek0⟩ : ∃ k0, k0 < k ∧ acc = nI k0 := by
              rcases hz with q | q
              · exact absurd q c46
              · exact q
            refine zw_aload_n (v := .ref (ad 100 0 0)) (pc' := 50) K dX2_award_49 rfl rfl rfl ?_
            refine zg_X2_22 (v := .ref (ad 105 0 0)) (pc' := 53) K hW2.mo rfl dX2_award_50 rfl ?_
            refine zw_bipush (v := 7) (pc' := 55) K dX2_award_53 (by decide) rfl ?_
            refine zw_iload_n (x := nI i) (pc' := 56) K dX2_award_55 rfl rfl ?_
            refine zw_imul (pc' := 57) K dX2_award_56 rfl ?_
            refine zw_iload_n (x := (nI k)) (pc' := 58) K dX2_award_57 rfl rfl ?_
            refine zw_iadd (pc' := 59) K dX2_award_58 rfl ?_
            refine zn_iald (j := 7 * i + k) (v := ((zv μ 4) (7 * i + k))) (pc' := 60) K hW2.m4 (zx_7 i k) (by have := hI.n; have := hI.g; omega) rfl dX2_award_59 rfl ?_
            refine zw_aload_n (v := .ref (ad 100 0 0)) (pc' := 61) K dX2_award_60 rfl rfl rfl ?_
            refine zg_X2_22 (v := .ref (ad 105 0 0)) (pc' := 64) K hW2.mo rfl dX2_award_61 rfl ?_
            refine zw_bipush (v := 7) (pc' := 66) K dX2_award_64 (by decide) rfl ?_
            refine zw_iload_n (x := nI i) (pc' := 67) K dX2_award_66 rfl rfl ?_
            refine zw_imul (pc' := 68) K dX2_award_67 rfl ?_
            refine zw_iload_n (x := acc) (pc' := 69) K dX2_award_68 rfl rfl ?_
            refine zw_iadd (pc' := 70) K dX2_award_69 rfl ?_
            refine zn_iald (j := 7 * i + k0) (v := ((zv μ 4) (7 * i + k0))) (pc' := 71) K hW2.m4 (by rw [ek0]; exact zx_7 i k0) (by have := hI.n; have := hI.g; omega) rfl dX2_award_70 rfl ?_
            refine zw_icmp_ge (tgt := 78) (pc' := 74) K dX2_award_71 (by decide) rfl (fun c71 => ?_) (fun c71 => ?_)
            · refine zw_iconst (v := 0) (pc' := 79) K dX2_award_78 (by decide) rfl ?_
              refine zw_istore (lv' := [some (.ref (ad 100 0 0)), some (.int (nI i)), some (.int acc), some (.int (nI k)), some (.int 0)]) (pc' := 81) K dX2_award_79 (by decide) rfl rfl ?_
              refine zw_aload_n (v := .ref (ad 100 0 0)) (pc' := 82) K dX2_award_81 rfl rfl rfl ?_
              refine zw_iload_n (x := nI i) (pc' := 83) K dX2_award_82 rfl rfl ?_
              refine zw_iload_n (x := (nI k)) (pc' := 84) K dX2_award_83 rfl rfl ?_
              refine zc_X2_81 (rest := []) (c' := 0) (n' := 0) (pc' := 87) K (ct_X2_stands hl hW2 i k (by have := hI.n; have := hI.g; omega) (by omega)) hW2.mo rfl rfl dX2_award_84 rfl (Nat.le_of_ble_eq_true rfl) ⟨Nat.le_of_ble_eq_true rfl, Nat.le_of_ble_eq_true rfl⟩ ⟨Nat.le_of_ble_eq_true rfl, Nat.le_of_ble_eq_true rfl, Nat.le_of_ble_eq_true rfl, Nat.le_of_ble_eq_true rfl⟩ (zw_kp ?_) zw_kn
              refine zw_if_eq (tgt := 99) (pc' := 90) K dX2_award_87 (by decide) rfl (fun c87 => ?_) (fun c87 => ?_)
              · have c87 := zb_0.mp c87
                refine zw_iload_n (x := acc) (pc' := 100) K dX2_award_99 rfl rfl ?_
                refine zw_istore_n (lv' := [some (.ref (ad 100 0 0)), some (.int (nI i)), some (.int acc), some (.int (nI k)), some (.int 0)]) (pc' := 101) K dX2_award_100 (by decide) rfl rfl ?_
                refine zw_iinc (x := (nI k)) (lv' := [some (.ref (ad 100 0 0)), some (.int (nI i)), some (.int acc), some (.int ((nI k) + 1)), some (.int 0)]) (pc' := 104) K dX2_award_101 rfl (by decide) rfl rfl ?_
                refine zw_goto (tgt := 38) K dX2_award_104 (by decide) ?_
                refine zw_weakL (lv' := [some (.ref (ad 100 0 0)), some (.int (nI i)), some (.int acc), some (.int ((nI k) + 1)), none]) (by simp [zw_le]) ?_
                exact ih38 hlt38 ((nI k) + 1) acc (nI_1 k) (by have xk0 : zx acc = k0 := (by rw [ek0]; exact zx_n (by omega)); rw [zf_s, ← hacc]; simp [zbestF, c46, Int32.not_lt.mpr c71, c87, xk0]) (by rcases hz with q | ⟨k1, q1, q2⟩; exact Or.inl q; exact Or.inr ⟨k1, by omega, q2⟩)
              · have c87 := zb_nz.mp c87
                refine zw_iload (x := 0) (pc' := 92) K dX2_award_90 rfl rfl ?_
                refine zw_if_eq (tgt := 99) (pc' := 95) K dX2_award_92 (by decide) rfl (fun c92 => ?_) (fun c92 => absurd c92 (by decide))
                refine zw_iload_n (x := acc) (pc' := 100) K dX2_award_99 rfl rfl ?_
                refine zw_istore_n (lv' := [some (.ref (ad 100 0 0)), some (.int (nI i)), some (.int acc), some (.int (nI k)), some (.int 0)]) (pc' := 101) K dX2_award_100 (by decide) rfl rfl ?_
                refine zw_iinc (x := (nI k)) (lv' := [some (.ref (ad 100 0 0)), some (.int (nI i)), some (.int acc), some (.int ((nI k) + 1)), some (.int 0)]) (pc' := 104) K dX2_award_101 rfl (by decide) rfl rfl ?_
                refine zw_goto (tgt := 38) K dX2_award_104 (by decide) ?_
                refine zw_weakL (lv' := [some (.ref (ad 100 0 0)), some (.int (nI i)), some (.int acc), some (.int ((nI k) + 1)), none]) (by simp [zw_le]) ?_
                exact ih38 hlt38 ((nI k) + 1) acc (nI_1 k) (by have xk0 : zx acc = k0 := (by rw [ek0]; exact zx_n (by omega)); rw [zf_s, ← hacc]; simp [zbestF, c46, Int32.not_lt.mpr c71, c87, xk0]) (by rcases hz with q | ⟨k1, q1, q2⟩; exact Or.inl q; exact Or.inr ⟨k1, by omega, q2⟩)
            · refine zw_iconst (v := 1) (pc' := 75) K dX2_award_74 (by decide) rfl ?_
              refine zw_goto (tgt := 79) K dX2_award_75 (by decide) ?_
              refine zw_istore (lv' := [some (.ref (ad 100 0 0)), some (.int (nI i)), some (.int acc), some (.int (nI k)), some (.int 1)]) (pc' := 81) K dX2_award_79 (by decide) rfl rfl ?_
              refine zw_aload_n (v := .ref (ad 100 0 0)) (pc' := 82) K dX2_award_81 rfl rfl rfl ?_
              refine zw_iload_n (x := nI i) (pc' := 83) K dX2_award_82 rfl rfl ?_
              refine zw_iload_n (x := (nI k)) (pc' := 84) K dX2_award_83 rfl rfl ?_
              refine zc_X2_81 (rest := []) (c' := 0) (n' := 0) (pc' := 87) K (ct_X2_stands hl hW2 i k (by have := hI.n; have := hI.g; omega) (by omega)) hW2.mo rfl rfl dX2_award_84 rfl (Nat.le_of_ble_eq_true rfl) ⟨Nat.le_of_ble_eq_true rfl, Nat.le_of_ble_eq_true rfl⟩ ⟨Nat.le_of_ble_eq_true rfl, Nat.le_of_ble_eq_true rfl, Nat.le_of_ble_eq_true rfl, Nat.le_of_ble_eq_true rfl⟩ (zw_kp ?_) zw_kn
              refine zw_if_eq (tgt := 99) (pc' := 90) K dX2_award_87 (by decide) rfl (fun c87 => ?_) (fun c87 => ?_)
              · have c87 := zb_0.mp c87
                refine zw_iload_n (x := acc) (pc' := 100) K dX2_award_99 rfl rfl ?_
                refine zw_istore_n (lv' := [some (.ref (ad 100 0 0)), some (.int (nI i)), some (.int acc), some (.int (nI k)), some (.int 1)]) (pc' := 101) K dX2_award_100 (by decide) rfl rfl ?_
                refine zw_iinc (x := (nI k)) (lv' := [some (.ref (ad 100 0 0)), some (.int (nI i)), some (.int acc), some (.int ((nI k) + 1)), some (.int 1)]) (pc' := 104) K dX2_award_101 rfl (by decide) rfl rfl ?_
                refine zw_goto (tgt := 38) K dX2_award_104 (by decide) ?_
                refine zw_weakL (lv' := [some (.ref (ad 100 0 0)), some (.int (nI i)), some (.int acc), some (.int ((nI k) + 1)), none]) (by simp [zw_le]) ?_
                exact ih38 hlt38 ((nI k) + 1) acc (nI_1 k) (by have xk0 : zx acc = k0 := (by rw [ek0]; exact zx_n (by omega)); rw [zf_s, ← hacc]; simp [zbestF, c46, Int32.not_le.mp c71, c87, xk0]) (by rcases hz with q | ⟨k1, q1, q2⟩; exact Or.inl q; exact Or.inr ⟨k1, by omega, q2⟩)
              · have c87 := zb_nz.mp c87
                refine zw_iload (x := 1) (pc' := 92) K dX2_award_90 rfl rfl ?_
                refine zw_if_eq (tgt := 99) (pc' := 95) K dX2_award_92 (by decide) rfl (fun c92 => absurd c92 (by decide)) (fun c92 => ?_)
                refine zw_iload_n (x := (nI k)) (pc' := 96) K dX2_award_95 rfl rfl ?_
                refine zw_goto (tgt := 100) K dX2_award_96 (by decide) ?_
                refine zw_istore_n (lv' := [some (.ref (ad 100 0 0)), some (.int (nI i)), some (.int (nI k)), some (.int (nI k)), some (.int 1)]) (pc' := 101) K dX2_award_100 (by decide) rfl rfl ?_
                refine zw_iinc (x := (nI k)) (lv' := [some (.ref (ad 100 0 0)), some (.int (nI i)), some (.int (nI k)), some (.int ((nI k) + 1)), some (.int 1)]) (pc' := 104) K dX2_award_101 rfl (by decide) rfl rfl ?_
                refine zw_goto (tgt := 38) K dX2_award_104 (by decide) ?_
                refine zw_weakL (lv' := [some (.ref (ad 100 0 0)), some (.int (nI i)), some (.int (nI k)), some (.int ((nI k) + 1)), none]) (by simp [zw_le]) ?_
                exact ih38 hlt38 ((nI k) + 1) (nI k) (nI_1 k) (by have xk0 : zx acc = k0 := (by rw [ek0]; exact zx_n (by omega)); rw [zf_s, ← hacc]; simp [zbestF, c46, Int32.not_le.mp c71, c87, xk0]) (Or.inr ⟨k, by omega, rfl⟩)
      exact L38 0 (Nat.zero_le _) 0 (-1) rfl rfl (Or.inl rfl)
    · refine zw_aload_n (v := .ref (ad 100 0 0)) (pc' := 29) K dX2_award_28 rfl rfl rfl ?_
      refine zw_iconst (v := 2) (pc' := 30) K dX2_award_29 (by decide) rfl ?_
      refine zc_X2_77 (rest := []) (c' := 0) (n' := 0) (pc' := 33) K (ct_X2_fails hl hW2 2) hW2.mo rfl rfl dX2_award_30 rfl (Nat.le_of_ble_eq_true rfl) ⟨Nat.le_of_ble_eq_true rfl, Nat.le_of_ble_eq_true rfl⟩ ⟨Nat.le_of_ble_eq_true rfl, Nat.le_of_ble_eq_true rfl, Nat.le_of_ble_eq_true rfl, Nat.le_of_ble_eq_true rfl⟩ (zw_ki fun r M1 h => ?_) zw_kn
      obtain ⟨rfl, hW11⟩ := h
      exact zw_iret K hE dX2_award_33 ⟨Nat.le_of_ble_eq_true rfl, Nat.le_of_ble_eq_true rfl⟩ (by rw [show zop_award μ (nI i) = (0, 2, μ) from by simp [zop_award, xe_i, c10, c25]]; exact ⟨rfl, hW11⟩)
  · have c10 := zb_0.mp c10
    refine zw_aload_n (v := .ref (ad 100 0 0)) (pc' := 14) K dX2_award_13 rfl rfl rfl ?_
    refine zw_iconst (v := 1) (pc' := 15) K dX2_award_14 (by decide) rfl ?_
    refine zc_X2_77 (rest := []) (c' := 0) (n' := 0) (pc' := 18) K (ct_X2_fails hl hW2 1) hW2.mo rfl rfl dX2_award_15 rfl (Nat.le_of_ble_eq_true rfl) ⟨Nat.le_of_ble_eq_true rfl, Nat.le_of_ble_eq_true rfl⟩ ⟨Nat.le_of_ble_eq_true rfl, Nat.le_of_ble_eq_true rfl, Nat.le_of_ble_eq_true rfl, Nat.le_of_ble_eq_true rfl⟩ (zw_ki fun r M1 h => ?_) zw_kn
    obtain ⟨rfl, hW12⟩ := h
    exact zw_iret K hE dX2_award_18 ⟨Nat.le_of_ble_eq_true rfl, Nat.le_of_ble_eq_true rfl⟩ (by rw [show zop_award μ t = (0, 1, μ) from by simp [zop_award, c10]]; exact ⟨rfl, hW12⟩)
set_option maxHeartbeats 2000000 in
theorem ct_X2_passOn {w : zw_W} {l : Launch} (hl : l.stackTraces = false) {M : zw_M} {ad : Nat → Nat → Nat → Nat} {σ μ : zS} {th : Int32} {o : Int64} (hW : zW w M ad σ μ th o) (hI : zI μ) (t b x : Int32) : zw_C w l yX2_passOn cX2_passOn 4 (Option.some Jvm.ClassFile.FieldType.int) (zr 3 0 0) [.ref (ad 100 0 0), .int t, .int b, .int x] M (zw_pi fun r M1 => r = (zop_passOn μ t b x).1 ∧ zW w M1 ad σ (zop_passOn μ t b x).2.2 (zop_passOn μ t b x).2.1 o) zw_no := by
  refine zw_enter RX2 rfl (by decide) hl (by simp [Value.category]) (Nat.le_of_ble_eq_true rfl) (fun X hXl hXw K hE htab hcon => ?_)
  subst hXl; subst hXw
  show zw_Z X _ 0 0 0 [some (.ref (ad 100 0 0)), some (.int t), some (.int b), some (.int x)] []
  refine zw_aload_n (v := .ref (ad 100 0 0)) (pc' := 1) K dX2_passOn_0 rfl rfl rfl ?_
  refine zw_iconst (v := 0) (pc' := 2) K dX2_passOn_1 (by decide) rfl ?_
  refine zp_X2_60 (v := .int 0) (pc' := 5) K hW.mo rfl rfl (by simp [zmob]) dX2_passOn_2 rfl ?_
  refine zw_nmM (fun M1 eM1 => ?_)
  have hW2 : zW (zw_Xw X) M1 ad σ μ 0 o := by rw [eM1]; exact hW.pth
  refine zw_aload_n (v := .ref (ad 100 0 0)) (pc' := 6) K dX2_passOn_5 rfl rfl rfl ?_
  refine zw_iload_n (x := t) (pc' := 7) K dX2_passOn_6 rfl rfl ?_
  refine zc_X2_85 (rest := []) (c' := 0) (n' := 0) (pc' := 10) K (ct_X2_isTender hl hW2 t hI.n) hW2.mo rfl rfl dX2_passOn_7 rfl (Nat.le_of_ble_eq_true rfl) ⟨Nat.le_of_ble_eq_true rfl, Nat.le_of_ble_eq_true rfl⟩ ⟨Nat.le_of_ble_eq_true rfl, Nat.le_of_ble_eq_true rfl, Nat.le_of_ble_eq_true rfl, Nat.le_of_ble_eq_true rfl⟩ (zw_kp ?_) zw_kn
  refine zw_if_ne (tgt := 19) (pc' := 13) K dX2_passOn_10 (by decide) rfl (fun c10 => ?_) (fun c10 => ?_)
  · have c10 := zb_nz.mp c10
    obtain ⟨i, hi, rfl⟩ := zin_of c10 (by have := hI.n; have := hI.g; omega)
    have xe_i : zx (nI i) = i := zx_n (by have := hI.n; have := hI.g; omega)
    refine zw_aload_n (v := .ref (ad 100 0 0)) (pc' := 20) K dX2_passOn_19 rfl rfl rfl ?_
    refine zg_X2_7 (v := .ref (ad 101 0 0)) (pc' := 23) K hW2.mo rfl dX2_passOn_20 rfl ?_
    refine zw_iload_n (x := (nI i)) (pc' := 24) K dX2_passOn_23 rfl rfl ?_
    refine zn_iald (j := i) (v := ((zv μ 0) i)) (pc' := 25) K hW2.m0 rfl (by have := hI.n; have := hI.g; omega) rfl dX2_passOn_24 rfl ?_
    refine zw_iconst (v := 1) (pc' := 26) K dX2_passOn_25 (by decide) rfl ?_
    refine zw_icmp_ne (tgt := 39) (pc' := 29) K dX2_passOn_26 (by decide) rfl (fun c26 => ?_) (fun c26 => ?_)
    · refine zw_aload_n (v := .ref (ad 100 0 0)) (pc' := 40) K dX2_passOn_39 rfl rfl rfl ?_
      refine zw_iconst (v := 2) (pc' := 41) K dX2_passOn_40 (by decide) rfl ?_
      refine zc_X2_77 (rest := []) (c' := 0) (n' := 0) (pc' := 44) K (ct_X2_fails hl hW2 2) hW2.mo rfl rfl dX2_passOn_41 rfl (Nat.le_of_ble_eq_true rfl) ⟨Nat.le_of_ble_eq_true rfl, Nat.le_of_ble_eq_true rfl⟩ ⟨Nat.le_of_ble_eq_true rfl, Nat.le_of_ble_eq_true rfl, Nat.le_of_ble_eq_true rfl, Nat.le_of_ble_eq_true rfl⟩ (zw_ki fun r M1 h => ?_) zw_kn
      obtain ⟨rfl, hW3⟩ := h
      exact zw_iret K hE dX2_passOn_44 ⟨Nat.le_of_ble_eq_true rfl, Nat.le_of_ble_eq_true rfl⟩ (by rw [show zop_passOn μ (nI i) b x = (0, 2, μ) from by simp [zop_passOn, xe_i, c10, c26]]; exact ⟨rfl, hW3⟩)
    · refine zw_aload_n (v := .ref (ad 100 0 0)) (pc' := 30) K dX2_passOn_29 rfl rfl rfl ?_
      refine zg_X2_16 (v := .ref (ad 103 0 0)) (pc' := 33) K hW2.mo rfl dX2_passOn_30 rfl ?_
      refine zw_iload_n (x := (nI i)) (pc' := 34) K dX2_passOn_33 rfl rfl ?_
      refine zn_iald (j := i) (v := ((zv μ 2) i)) (pc' := 35) K hW2.m2 rfl (by have := hI.n; have := hI.g; omega) rfl dX2_passOn_34 rfl ?_
      refine zw_iconst (v := (-1)) (pc' := 36) K dX2_passOn_35 (by decide) rfl ?_
      refine zw_icmp_eq (tgt := 45) (pc' := 39) K dX2_passOn_36 (by decide) rfl (fun c36 => ?_) (fun c36 => ?_)
      · refine zw_iload_n (x := b) (pc' := 46) K dX2_passOn_45 rfl rfl ?_
        refine zc_X2_73 (rest := []) (c' := 0) (n' := 0) (pc' := 49) K (ct_X2_isBidder hl M1 b) rfl rfl dX2_passOn_46 rfl (Nat.le_of_ble_eq_true rfl) ⟨Nat.le_of_ble_eq_true rfl, Nat.le_of_ble_eq_true rfl⟩ ⟨Nat.le_of_ble_eq_true rfl, Nat.le_of_ble_eq_true rfl, Nat.le_of_ble_eq_true rfl, Nat.le_of_ble_eq_true rfl⟩ (zw_kp ?_) zw_kn
        refine zw_if_eq (tgt := 75) (pc' := 52) K dX2_passOn_49 (by decide) rfl (fun c49 => ?_) (fun c49 => ?_)
        · have c49 := zb_0.mp c49
          refine zw_aload_n (v := .ref (ad 100 0 0)) (pc' := 76) K dX2_passOn_75 rfl rfl rfl ?_
          refine zw_iconst (v := 3) (pc' := 77) K dX2_passOn_76 (by decide) rfl ?_
          refine zc_X2_77 (rest := []) (c' := 0) (n' := 0) (pc' := 80) K (ct_X2_fails hl hW2 3) hW2.mo rfl rfl dX2_passOn_77 rfl (Nat.le_of_ble_eq_true rfl) ⟨Nat.le_of_ble_eq_true rfl, Nat.le_of_ble_eq_true rfl⟩ ⟨Nat.le_of_ble_eq_true rfl, Nat.le_of_ble_eq_true rfl, Nat.le_of_ble_eq_true rfl, Nat.le_of_ble_eq_true rfl⟩ (zw_ki fun r M1 h => ?_) zw_kn
          obtain ⟨rfl, hW4⟩ := h
          exact zw_iret K hE dX2_passOn_80 ⟨Nat.le_of_ble_eq_true rfl, Nat.le_of_ble_eq_true rfl⟩ (by rw [show zop_passOn μ (nI i) b x = (0, 3, μ) from by simp [zop_passOn, xe_i, c10, c26, c36, c49]]; exact ⟨rfl, hW4⟩)
        · have c49 := zb_nz.mp c49
          refine zw_iload_n (x := x) (pc' := 53) K dX2_passOn_52 rfl rfl ?_
          refine zw_iconst (v := 1) (pc' := 54) K dX2_passOn_53 (by decide) rfl ?_
          refine zw_aload_n (v := .ref (ad 100 0 0)) (pc' := 55) K dX2_passOn_54 rfl rfl rfl ?_
          refine zw_iload_n (x := (nI i)) (pc' := 56) K dX2_passOn_55 rfl rfl ?_
          refine zc_X2_92 (rest := [.int 1, .int x]) (c' := 0) (n' := 0) (pc' := 59) K (ct_X2_price hl hW2 i (by have := hI.n; have := hI.g; omega) (by obtain ⟨j, h1, h2, _⟩ := hI.wi hi c26; exact ⟨j, h1, h2⟩)) hW2.mo rfl rfl dX2_passOn_56 rfl (Nat.le_of_ble_eq_true rfl) ⟨Nat.le_of_ble_eq_true rfl, Nat.le_of_ble_eq_true rfl⟩ ⟨Nat.le_of_ble_eq_true rfl, Nat.le_of_ble_eq_true rfl, Nat.le_of_ble_eq_true rfl, Nat.le_of_ble_eq_true rfl⟩ (zw_kp ?_) zw_kn
          refine zc_X2_63 (rest := []) (c' := 0) (n' := 0) (pc' := 62) K (ct_X2_in hl M1 x 1 (zprice μ i)) rfl rfl dX2_passOn_59 rfl (Nat.le_of_ble_eq_true rfl) ⟨Nat.le_of_ble_eq_true rfl, Nat.le_of_ble_eq_true rfl⟩ ⟨Nat.le_of_ble_eq_true rfl, Nat.le_of_ble_eq_true rfl, Nat.le_of_ble_eq_true rfl, Nat.le_of_ble_eq_true rfl⟩ (zw_kp ?_) zw_kn
          refine zw_if_eq (tgt := 75) (pc' := 65) K dX2_passOn_62 (by decide) rfl (fun c62 => ?_) (fun c62 => ?_)
          · have c62 := zb_0.mp c62
            refine zw_aload_n (v := .ref (ad 100 0 0)) (pc' := 76) K dX2_passOn_75 rfl rfl rfl ?_
            refine zw_iconst (v := 3) (pc' := 77) K dX2_passOn_76 (by decide) rfl ?_
            refine zc_X2_77 (rest := []) (c' := 0) (n' := 0) (pc' := 80) K (ct_X2_fails hl hW2 3) hW2.mo rfl rfl dX2_passOn_77 rfl (Nat.le_of_ble_eq_true rfl) ⟨Nat.le_of_ble_eq_true rfl, Nat.le_of_ble_eq_true rfl⟩ ⟨Nat.le_of_ble_eq_true rfl, Nat.le_of_ble_eq_true rfl, Nat.le_of_ble_eq_true rfl, Nat.le_of_ble_eq_true rfl⟩ (zw_ki fun r M1 h => ?_) zw_kn
            obtain ⟨rfl, hW5⟩ := h
            exact zw_iret K hE dX2_passOn_80 ⟨Nat.le_of_ble_eq_true rfl, Nat.le_of_ble_eq_true rfl⟩ (by rw [show zop_passOn μ (nI i) b x = (0, 3, μ) from by simp [zop_passOn, xe_i, c10, c26, c36, c49, c62]]; exact ⟨rfl, hW5⟩)
          · have c62 := zb_nz.mp c62
            refine zw_iload_n (x := b) (pc' := 66) K dX2_passOn_65 rfl rfl ?_
            refine zw_aload_n (v := .ref (ad 100 0 0)) (pc' := 67) K dX2_passOn_66 rfl rfl rfl ?_
            refine zg_X2_13 (v := .ref (ad 102 0 0)) (pc' := 70) K hW2.mo rfl dX2_passOn_67 rfl ?_
            refine zw_iload_n (x := (nI i)) (pc' := 71) K dX2_passOn_70 rfl rfl ?_
            refine zn_iald (j := i) (v := ((zv μ 1) i)) (pc' := 72) K hW2.m1 rfl (by have := hI.n; have := hI.g; omega) rfl dX2_passOn_71 rfl ?_
            refine zw_icmp_ne (tgt := 81) (pc' := 75) K dX2_passOn_72 (by decide) rfl (fun c72 => ?_) (fun c72 => ?_)
            · refine zw_aload_n (v := .ref (ad 100 0 0)) (pc' := 82) K dX2_passOn_81 rfl rfl rfl ?_
              refine zg_X2_16 (v := .ref (ad 103 0 0)) (pc' := 85) K hW2.mo rfl dX2_passOn_82 rfl ?_
              refine zw_iload_n (x := (nI i)) (pc' := 86) K dX2_passOn_85 rfl rfl ?_
              refine zw_iload_n (x := b) (pc' := 87) K dX2_passOn_86 rfl rfl ?_
              refine zn_iast (j := i) (pc' := 88) K hW2.m2 rfl (by have := hI.n; have := hI.g; omega) dX2_passOn_87 rfl ?_
              refine zw_nmM (fun M6 eM6 => ?_)
              have hW7 : zW (zw_Xw X) M6 ad σ (zset μ 2 i b) 0 o := by rw [eM6]; exact hW2.p2
              refine zw_aload_n (v := .ref (ad 100 0 0)) (pc' := 89) K dX2_passOn_88 rfl rfl rfl ?_
              refine zg_X2_19 (v := .ref (ad 104 0 0)) (pc' := 92) K hW7.mo rfl dX2_passOn_89 rfl ?_
              refine zw_iload_n (x := (nI i)) (pc' := 93) K dX2_passOn_92 rfl rfl ?_
              refine zw_iload_n (x := x) (pc' := 94) K dX2_passOn_93 rfl rfl ?_
              refine zn_iast (j := i) (pc' := 95) K hW7.m3 rfl (by have := hI.n; have := hI.g; omega) dX2_passOn_94 rfl ?_
              refine zw_nmM (fun M8 eM8 => ?_)
              have hW9 : zW (zw_Xw X) M8 ad σ (zset (zset μ 2 i b) 3 i x) 0 o := by rw [eM8]; exact hW7.p3
              refine zw_aload_n (v := .ref (ad 100 0 0)) (pc' := 96) K dX2_passOn_95 rfl rfl rfl ?_
              refine zg_X2_13 (v := .ref (ad 102 0 0)) (pc' := 99) K hW9.mo rfl dX2_passOn_96 rfl ?_
              refine zw_iload_n (x := (nI i)) (pc' := 100) K dX2_passOn_99 rfl rfl ?_
              refine zn_iald (j := i) (v := (zv μ 1 i)) (pc' := 101) K hW9.m1 rfl (by have := hI.n; have := hI.g; omega) rfl dX2_passOn_100 rfl ?_
              exact zw_iret K hE dX2_passOn_101 ⟨Nat.le_of_ble_eq_true rfl, Nat.le_of_ble_eq_true rfl⟩ (by rw [show zop_passOn μ (nI i) b x = (zv μ 1 i, 0, zset (zset μ 2 i b) 3 i x) from by simp [zop_passOn, xe_i, c10, c26, c36, c49, c62, c72]]; exact ⟨rfl, hW9⟩)
            · refine zw_aload_n (v := .ref (ad 100 0 0)) (pc' := 76) K dX2_passOn_75 rfl rfl rfl ?_
              refine zw_iconst (v := 3) (pc' := 77) K dX2_passOn_76 (by decide) rfl ?_
              refine zc_X2_77 (rest := []) (c' := 0) (n' := 0) (pc' := 80) K (ct_X2_fails hl hW2 3) hW2.mo rfl rfl dX2_passOn_77 rfl (Nat.le_of_ble_eq_true rfl) ⟨Nat.le_of_ble_eq_true rfl, Nat.le_of_ble_eq_true rfl⟩ ⟨Nat.le_of_ble_eq_true rfl, Nat.le_of_ble_eq_true rfl, Nat.le_of_ble_eq_true rfl, Nat.le_of_ble_eq_true rfl⟩ (zw_ki fun r M1 h => ?_) zw_kn
              obtain ⟨rfl, hW10⟩ := h
              exact zw_iret K hE dX2_passOn_80 ⟨Nat.le_of_ble_eq_true rfl, Nat.le_of_ble_eq_true rfl⟩ (by rw [show zop_passOn μ (nI i) b x = (0, 3, μ) from by simp [zop_passOn, xe_i, c10, c26, c36, c49, c62, c72]]; exact ⟨rfl, hW10⟩)
      · refine zw_aload_n (v := .ref (ad 100 0 0)) (pc' := 40) K dX2_passOn_39 rfl rfl rfl ?_
        refine zw_iconst (v := 2) (pc' := 41) K dX2_passOn_40 (by decide) rfl ?_
        refine zc_X2_77 (rest := []) (c' := 0) (n' := 0) (pc' := 44) K (ct_X2_fails hl hW2 2) hW2.mo rfl rfl dX2_passOn_41 rfl (Nat.le_of_ble_eq_true rfl) ⟨Nat.le_of_ble_eq_true rfl, Nat.le_of_ble_eq_true rfl⟩ ⟨Nat.le_of_ble_eq_true rfl, Nat.le_of_ble_eq_true rfl, Nat.le_of_ble_eq_true rfl, Nat.le_of_ble_eq_true rfl⟩ (zw_ki fun r M1 h => ?_) zw_kn
        obtain ⟨rfl, hW11⟩ := h
        exact zw_iret K hE dX2_passOn_44 ⟨Nat.le_of_ble_eq_true rfl, Nat.le_of_ble_eq_true rfl⟩ (by rw [show zop_passOn μ (nI i) b x = (0, 2, μ) from by simp [zop_passOn, xe_i, c10, c26, c36]]; exact ⟨rfl, hW11⟩)
  · have c10 := zb_0.mp c10
    refine zw_aload_n (v := .ref (ad 100 0 0)) (pc' := 14) K dX2_passOn_13 rfl rfl rfl ?_
    refine zw_iconst (v := 1) (pc' := 15) K dX2_passOn_14 (by decide) rfl ?_
    refine zc_X2_77 (rest := []) (c' := 0) (n' := 0) (pc' := 18) K (ct_X2_fails hl hW2 1) hW2.mo rfl rfl dX2_passOn_15 rfl (Nat.le_of_ble_eq_true rfl) ⟨Nat.le_of_ble_eq_true rfl, Nat.le_of_ble_eq_true rfl⟩ ⟨Nat.le_of_ble_eq_true rfl, Nat.le_of_ble_eq_true rfl, Nat.le_of_ble_eq_true rfl, Nat.le_of_ble_eq_true rfl⟩ (zw_ki fun r M1 h => ?_) zw_kn
    obtain ⟨rfl, hW12⟩ := h
    exact zw_iret K hE dX2_passOn_18 ⟨Nat.le_of_ble_eq_true rfl, Nat.le_of_ble_eq_true rfl⟩ (by rw [show zop_passOn μ t b x = (0, 1, μ) from by simp [zop_passOn, c10]]; exact ⟨rfl, hW12⟩)
