/-! CartelWatchModel: turnovers, signs, suspicions -/
set_option maxRecDepth 100000
set_option maxHeartbeats 2000000 in
theorem ct_X2_turnoverOf {w : zw_W} {l : Launch} (hl : l.stackTraces = false) {M : zw_M} {ad : Nat → Nat → Nat → Nat} {σ μ : zS} {th : Int32} {o : Int64} (hW : zW w M ad σ μ th o) (hI : zJ μ) (b : Int32) : zw_C w l yX2_turnoverOf cX2_turnoverOf 4 (Option.some Jvm.ClassFile.FieldType.int) (zr 2 0 0) [.ref (ad 100 0 0), .int b] M (zw_pi fun r M1 => r = zturn μ b ∧ M1 = M) zw_no := by
  refine zw_enter RX2 rfl (by decide) hl (by simp [Value.category]) (Nat.le_of_ble_eq_true rfl) (fun X hXl hXw K hE htab hcon => ?_)
  subst hXl; subst hXw
  show zw_Z X _ 0 0 0 [some (.ref (ad 100 0 0)), some (.int b), none, none] []
  refine zw_iconst (v := 0) (pc' := 1) K dX2_turnoverOf_0 (by decide) rfl ?_
  refine zw_istore_n (lv' := [some (.ref (ad 100 0 0)), some (.int b), some (.int 0), none]) (pc' := 2) K dX2_turnoverOf_1 (by decide) rfl rfl ?_
  refine zw_iconst (v := 0) (pc' := 3) K dX2_turnoverOf_2 (by decide) rfl ?_
  refine zw_istore_n (lv' := [some (.ref (ad 100 0 0)), some (.int b), some (.int 0), some (.int 0)]) (pc' := 4) K dX2_turnoverOf_3 (by decide) rfl rfl ?_
  have L4 : ∀ i : Nat, i ≤ zn μ → ∀ (xi : Int32) (acc : Int32), xi = nI i → (acc = zf (zturnF μ b) i 0) → zw_Z X M 0 0 4 [some (.ref (ad 100 0 0)), some (.int b), some (.int acc), some (.int xi)] [] := by
    refine zl_up (fun i hi4 ih4 => ?_)
    intro xi acc hxi hacc
    refine zw_iload_n (x := xi) (pc' := 5) K dX2_turnoverOf_4 rfl rfl ?_
    refine zw_aload_n (v := .ref (ad 100 0 0)) (pc' := 6) K dX2_turnoverOf_5 rfl rfl rfl ?_
    refine zg_X2_67 (v := .int (nI (zn μ))) (pc' := 9) K hW.mo rfl dX2_turnoverOf_6 rfl ?_
    refine zw_icmp_ge (tgt := 80) (pc' := 12) K dX2_turnoverOf_9 (by decide) rfl (fun c9 => ?_) (fun c9 => ?_)
    · have hend4 : i = zn μ := zi_ge hxi rfl hi4 (by have := hI.n; omega) c9
      refine zw_iload_n (x := acc) (pc' := 81) K dX2_turnoverOf_80 rfl rfl ?_
      exact zw_iret K hE dX2_turnoverOf_81 ⟨Nat.le_of_ble_eq_true rfl, Nat.le_of_ble_eq_true rfl⟩ (⟨by rw [hacc, hend4]; rfl, rfl⟩)
    · have hlt4 : i < zn μ := zi_lt hxi rfl hi4 (by have := hI.n; omega) c9
      refine zw_aload_n (v := .ref (ad 100 0 0)) (pc' := 13) K dX2_turnoverOf_12 rfl rfl rfl ?_
      refine zg_X2_7 (v := .ref (ad 101 0 0)) (pc' := 16) K hW.mo rfl dX2_turnoverOf_13 rfl ?_
      refine zw_iload_n (x := xi) (pc' := 17) K dX2_turnoverOf_16 rfl rfl ?_
      subst hxi
      refine zn_iald (j := i) (v := ((zv μ 0) i)) (pc' := 18) K hW.m0 rfl (by have := hI.n; omega) rfl dX2_turnoverOf_17 rfl ?_
      refine zw_iconst (v := 1) (pc' := 19) K dX2_turnoverOf_18 (by decide) rfl ?_
      refine zw_icmp_ne (tgt := 74) (pc' := 22) K dX2_turnoverOf_19 (by decide) rfl (fun c19 => ?_) (fun c19 => ?_)
      · refine zw_iinc (x := (nI i)) (lv' := [some (.ref (ad 100 0 0)), some (.int b), some (.int acc), some (.int ((nI i) + 1))]) (pc' := 77) K dX2_turnoverOf_74 rfl (by decide) rfl rfl ?_
        refine zw_goto (tgt := 4) K dX2_turnoverOf_77 (by decide) ?_
        exact ih4 hlt4 ((nI i) + 1) acc (nI_1 i) (by rw [zf_s, ← hacc]; simp [zturnF, c19])
      · refine zw_iload_n (x := acc) (pc' := 23) K dX2_turnoverOf_22 rfl rfl ?_
        refine zw_aload_n (v := .ref (ad 100 0 0)) (pc' := 24) K dX2_turnoverOf_23 rfl rfl rfl ?_
        refine zg_X2_13 (v := .ref (ad 102 0 0)) (pc' := 27) K hW.mo rfl dX2_turnoverOf_24 rfl ?_
        refine zw_iload_n (x := (nI i)) (pc' := 28) K dX2_turnoverOf_27 rfl rfl ?_
        refine zn_iald (j := i) (v := ((zv μ 1) i)) (pc' := 29) K hW.m1 rfl (by have := hI.n; omega) rfl dX2_turnoverOf_28 rfl ?_
        refine zw_iload_n (x := b) (pc' := 30) K dX2_turnoverOf_29 rfl rfl ?_
        refine zw_icmp_ne (tgt := 48) (pc' := 33) K dX2_turnoverOf_30 (by decide) rfl (fun c30 => ?_) (fun c30 => ?_)
        · refine zw_iconst (v := 0) (pc' := 49) K dX2_turnoverOf_48 (by decide) rfl ?_
          refine zw_iadd (pc' := 50) K dX2_turnoverOf_49 rfl ?_
          refine zw_istore_n (lv' := [some (.ref (ad 100 0 0)), some (.int b), some (.int (acc + 0)), some (.int (nI i))]) (pc' := 51) K dX2_turnoverOf_50 (by decide) rfl rfl ?_
          refine zw_iload_n (x := acc + 0) (pc' := 52) K dX2_turnoverOf_51 rfl rfl ?_
          refine zw_aload_n (v := .ref (ad 100 0 0)) (pc' := 53) K dX2_turnoverOf_52 rfl rfl rfl ?_
          refine zg_X2_16 (v := .ref (ad 103 0 0)) (pc' := 56) K hW.mo rfl dX2_turnoverOf_53 rfl ?_
          refine zw_iload_n (x := (nI i)) (pc' := 57) K dX2_turnoverOf_56 rfl rfl ?_
          refine zn_iald (j := i) (v := ((zv μ 2) i)) (pc' := 58) K hW.m2 rfl (by have := hI.n; omega) rfl dX2_turnoverOf_57 rfl ?_
          refine zw_iload_n (x := b) (pc' := 59) K dX2_turnoverOf_58 rfl rfl ?_
          refine zw_icmp_ne (tgt := 71) (pc' := 62) K dX2_turnoverOf_59 (by decide) rfl (fun c59 => ?_) (fun c59 => ?_)
          · refine zw_iconst (v := 0) (pc' := 72) K dX2_turnoverOf_71 (by decide) rfl ?_
            refine zw_iadd (pc' := 73) K dX2_turnoverOf_72 rfl ?_
            refine zw_istore_n (lv' := [some (.ref (ad 100 0 0)), some (.int b), some (.int ((acc + 0) + 0)), some (.int (nI i))]) (pc' := 74) K dX2_turnoverOf_73 (by decide) rfl rfl ?_
            refine zw_iinc (x := (nI i)) (lv' := [some (.ref (ad 100 0 0)), some (.int b), some (.int ((acc + 0) + 0)), some (.int ((nI i) + 1))]) (pc' := 77) K dX2_turnoverOf_74 rfl (by decide) rfl rfl ?_
            refine zw_goto (tgt := 4) K dX2_turnoverOf_77 (by decide) ?_
            exact ih4 hlt4 ((nI i) + 1) ((acc + 0) + 0) (nI_1 i) (by rw [zf_s, ← hacc]; simp [zturnF, c19, c30, c59])
          · refine zw_aload_n (v := .ref (ad 100 0 0)) (pc' := 63) K dX2_turnoverOf_62 rfl rfl rfl ?_
            refine zg_X2_19 (v := .ref (ad 104 0 0)) (pc' := 66) K hW.mo rfl dX2_turnoverOf_63 rfl ?_
            refine zw_iload_n (x := (nI i)) (pc' := 67) K dX2_turnoverOf_66 rfl rfl ?_
            refine zn_iald (j := i) (v := ((zv μ 3) i)) (pc' := 68) K hW.m3 rfl (by have := hI.n; omega) rfl dX2_turnoverOf_67 rfl ?_
            refine zw_goto (tgt := 72) K dX2_turnoverOf_68 (by decide) ?_
            refine zw_iadd (pc' := 73) K dX2_turnoverOf_72 rfl ?_
            refine zw_istore_n (lv' := [some (.ref (ad 100 0 0)), some (.int b), some (.int ((acc + 0) + ((zv μ 3) i))), some (.int (nI i))]) (pc' := 74) K dX2_turnoverOf_73 (by decide) rfl rfl ?_
            refine zw_iinc (x := (nI i)) (lv' := [some (.ref (ad 100 0 0)), some (.int b), some (.int ((acc + 0) + ((zv μ 3) i))), some (.int ((nI i) + 1))]) (pc' := 77) K dX2_turnoverOf_74 rfl (by decide) rfl rfl ?_
            refine zw_goto (tgt := 4) K dX2_turnoverOf_77 (by decide) ?_
            exact ih4 hlt4 ((nI i) + 1) ((acc + 0) + ((zv μ 3) i)) (nI_1 i) (by rw [zf_s, ← hacc]; simp [zturnF, c19, c30, c59])
        · refine zw_aload_n (v := .ref (ad 100 0 0)) (pc' := 34) K dX2_turnoverOf_33 rfl rfl rfl ?_
          refine zw_iload_n (x := (nI i)) (pc' := 35) K dX2_turnoverOf_34 rfl rfl ?_
          refine zc_X2_92 (rest := [.int acc]) (c' := 0) (n' := 0) (pc' := 38) K (ct_X2_price hl hW i (by have := hI.n; omega) (by obtain ⟨j, h1, h2, _⟩ := hI.wi hlt4 c19; exact ⟨j, h1, h2⟩)) hW.mo rfl rfl dX2_turnoverOf_35 rfl (Nat.le_of_ble_eq_true rfl) ⟨Nat.le_of_ble_eq_true rfl, Nat.le_of_ble_eq_true rfl⟩ ⟨Nat.le_of_ble_eq_true rfl, Nat.le_of_ble_eq_true rfl, Nat.le_of_ble_eq_true rfl, Nat.le_of_ble_eq_true rfl⟩ (zw_kp ?_) zw_kn
          refine zw_aload_n (v := .ref (ad 100 0 0)) (pc' := 39) K dX2_turnoverOf_38 rfl rfl rfl ?_
          refine zg_X2_19 (v := .ref (ad 104 0 0)) (pc' := 42) K hW.mo rfl dX2_turnoverOf_39 rfl ?_
          refine zw_iload_n (x := (nI i)) (pc' := 43) K dX2_turnoverOf_42 rfl rfl ?_
          refine zn_iald (j := i) (v := ((zv μ 3) i)) (pc' := 44) K hW.m3 rfl (by have := hI.n; omega) rfl dX2_turnoverOf_43 rfl ?_
          refine zw_isub (pc' := 45) K dX2_turnoverOf_44 rfl ?_
          refine zw_goto (tgt := 49) K dX2_turnoverOf_45 (by decide) ?_
          refine zw_iadd (pc' := 50) K dX2_turnoverOf_49 rfl ?_
          refine zw_istore_n (lv' := [some (.ref (ad 100 0 0)), some (.int b), some (.int (acc + ((zprice μ i) - ((zv μ 3) i)))), some (.int (nI i))]) (pc' := 51) K dX2_turnoverOf_50 (by decide) rfl rfl ?_
          refine zw_iload_n (x := acc + ((zprice μ i) - ((zv μ 3) i))) (pc' := 52) K dX2_turnoverOf_51 rfl rfl ?_
          refine zw_aload_n (v := .ref (ad 100 0 0)) (pc' := 53) K dX2_turnoverOf_52 rfl rfl rfl ?_
          refine zg_X2_16 (v := .ref (ad 103 0 0)) (pc' := 56) K hW.mo rfl dX2_turnoverOf_53 rfl ?_
          refine zw_iload_n (x := (nI i)) (pc' := 57) K dX2_turnoverOf_56 rfl rfl ?_
          refine zn_iald (j := i) (v := ((zv μ 2) i)) (pc' := 58) K hW.m2 rfl (by have := hI.n; omega) rfl dX2_turnoverOf_57 rfl ?_
          refine zw_iload_n (x := b) (pc' := 59) K dX2_turnoverOf_58 rfl rfl ?_
          refine zw_icmp_ne (tgt := 71) (pc' := 62) K dX2_turnoverOf_59 (by decide) rfl (fun c59 => ?_) (fun c59 => ?_)
          · refine zw_iconst (v := 0) (pc' := 72) K dX2_turnoverOf_71 (by decide) rfl ?_
            refine zw_iadd (pc' := 73) K dX2_turnoverOf_72 rfl ?_
            refine zw_istore_n (lv' := [some (.ref (ad 100 0 0)), some (.int b), some (.int ((acc + ((zprice μ i) - ((zv μ 3) i))) + 0)), some (.int (nI i))]) (pc' := 74) K dX2_turnoverOf_73 (by decide) rfl rfl ?_
            refine zw_iinc (x := (nI i)) (lv' := [some (.ref (ad 100 0 0)), some (.int b), some (.int ((acc + ((zprice μ i) - ((zv μ 3) i))) + 0)), some (.int ((nI i) + 1))]) (pc' := 77) K dX2_turnoverOf_74 rfl (by decide) rfl rfl ?_
            refine zw_goto (tgt := 4) K dX2_turnoverOf_77 (by decide) ?_
            exact ih4 hlt4 ((nI i) + 1) ((acc + ((zprice μ i) - ((zv μ 3) i))) + 0) (nI_1 i) (by rw [zf_s, ← hacc]; simp [zturnF, c19, c30, c59])
          · refine zw_aload_n (v := .ref (ad 100 0 0)) (pc' := 63) K dX2_turnoverOf_62 rfl rfl rfl ?_
            refine zg_X2_19 (v := .ref (ad 104 0 0)) (pc' := 66) K hW.mo rfl dX2_turnoverOf_63 rfl ?_
            refine zw_iload_n (x := (nI i)) (pc' := 67) K dX2_turnoverOf_66 rfl rfl ?_
            refine zn_iald (j := i) (v := ((zv μ 3) i)) (pc' := 68) K hW.m3 rfl (by have := hI.n; omega) rfl dX2_turnoverOf_67 rfl ?_
            refine zw_goto (tgt := 72) K dX2_turnoverOf_68 (by decide) ?_
            refine zw_iadd (pc' := 73) K dX2_turnoverOf_72 rfl ?_
            refine zw_istore_n (lv' := [some (.ref (ad 100 0 0)), some (.int b), some (.int ((acc + ((zprice μ i) - ((zv μ 3) i))) + ((zv μ 3) i))), some (.int (nI i))]) (pc' := 74) K dX2_turnoverOf_73 (by decide) rfl rfl ?_
            refine zw_iinc (x := (nI i)) (lv' := [some (.ref (ad 100 0 0)), some (.int b), some (.int ((acc + ((zprice μ i) - ((zv μ 3) i))) + ((zv μ 3) i))), some (.int ((nI i) + 1))]) (pc' := 77) K dX2_turnoverOf_74 rfl (by decide) rfl rfl ?_
            refine zw_goto (tgt := 4) K dX2_turnoverOf_77 (by decide) ?_
            exact ih4 hlt4 ((nI i) + 1) ((acc + ((zprice μ i) - ((zv μ 3) i))) + ((zv μ 3) i)) (nI_1 i) (by rw [zf_s, ← hacc]; simp [zturnF, c19, c30, c59])
  exact L4 0 (Nat.zero_le _) 0 0 rfl rfl
set_option maxHeartbeats 2000000 in
theorem ct_X2_isTurn {w : zw_W} {l : Launch} (hl : l.stackTraces = false) {M : zw_M} {ad : Nat → Nat → Nat → Nat} {σ μ : zS} {th : Int32} {o : Int64} (hW : zW w M ad σ μ th o) (i a b : Nat) (hi : i ≤ 30) (ha : a < 7) (hb : b < 7) : zw_C w l yX2_isTurn cX2_isTurn 6 (Option.some Jvm.ClassFile.FieldType.boolean) (zr 2 0 0) [.ref (ad 100 0 0), .int (nI i), .int (nI a), .int (nI b)] M (zw_pi fun r M1 => r = zb (ztq μ i a b (nI b)) ∧ M1 = M) zw_no := by
  refine zw_enter RX2 rfl (by decide) hl (by simp [Value.category]) (Nat.le_of_ble_eq_true rfl) (fun X hXl hXw K hE htab hcon => ?_)
  subst hXl; subst hXw
  show zw_Z X _ 0 0 0 [some (.ref (ad 100 0 0)), some (.int (nI i)), some (.int (nI a)), some (.int (nI b)), none, none] []
  refine zw_iconst (v := (-1)) (pc' := 1) K dX2_isTurn_0 (by decide) rfl ?_
  refine zw_istore (lv' := [some (.ref (ad 100 0 0)), some (.int (nI i)), some (.int (nI a)), some (.int (nI b)), some (.int (-1)), none]) (pc' := 3) K dX2_isTurn_1 (by decide) rfl rfl ?_
  refine zw_iconst (v := 0) (pc' := 4) K dX2_isTurn_3 (by decide) rfl ?_
  refine zw_istore (lv' := [some (.ref (ad 100 0 0)), some (.int (nI i)), some (.int (nI a)), some (.int (nI b)), some (.int (-1)), some (.int 0)]) (pc' := 6) K dX2_isTurn_4 (by decide) rfl rfl ?_
  have L6 : ∀ k : Nat, k ≤ i → ∀ (xi : Int32) (z : Int32), xi = nI k → (z = zf (zlastF μ a b) k (-1)) → (z = -1 ∨ ∃ k0, k0 < k ∧ z = nI k0) → zw_Z X M 0 0 6 [some (.ref (ad 100 0 0)), some (.int (nI i)), some (.int (nI a)), some (.int (nI b)), some (.int z), some (.int xi)] [] := by
    refine zl_up (fun k hi6 ih6 => ?_)
    intro xi z hxi hacc hz
    refine zw_iload (x := xi) (pc' := 8) K dX2_isTurn_6 rfl rfl ?_
    refine zw_iload_n (x := nI i) (pc' := 9) K dX2_isTurn_8 rfl rfl ?_
    refine zw_icmp_ge (tgt := 58) (pc' := 12) K dX2_isTurn_9 (by decide) rfl (fun c9 => ?_) (fun c9 => ?_)
    · have hend6 : k = i := zi_ge hxi rfl hi6 (by omega) c9
      refine zw_iload (x := z) (pc' := 60) K dX2_isTurn_58 rfl rfl ?_
      refine zw_iconst (v := (-1)) (pc' := 61) K dX2_isTurn_60 (by decide) rfl ?_
      refine zw_icmp_eq (tgt := 79) (pc' := 64) K dX2_isTurn_61 (by decide) rfl (fun c61 => ?_) (fun c61 => ?_)
      · refine zw_iconst (v := 0) (pc' := 80) K dX2_isTurn_79 (by decide) rfl ?_
        exact zw_zret K hE rfl dX2_isTurn_80 ⟨Nat.le_of_ble_eq_true rfl, Nat.le_of_ble_eq_true rfl⟩ (⟨by have el : zlast μ i a b = z := (by rw [hacc, hend6]; rfl); unfold ztq; rw [el]; simp [zb, c61], rfl⟩)
      · obtain ⟨k0, hk0, ek0⟩ : ∃ k0, k0 < k ∧ z = nI k0 := by
          rcases hz with q | q
          · exact absurd q c61
          · exact q
        refine zw_aload_n (v := .ref (ad 100 0 0)) (pc' := 65) K dX2_isTurn_64 rfl rfl rfl ?_
        refine zg_X2_13 (v := .ref (ad 102 0 0)) (pc' := 68) K hW.mo rfl dX2_isTurn_65 rfl ?_
        refine zw_iload (x := z) (pc' := 70) K dX2_isTurn_68 rfl rfl ?_
        refine zn_iald (j := k0) (v := ((zv μ 1) k0)) (pc' := 71) K hW.m1 ek0 (by omega) rfl dX2_isTurn_70 rfl ?_
        refine zw_iload_n (x := nI b) (pc' := 72) K dX2_isTurn_71 rfl rfl ?_
        refine zw_icmp_ne (tgt := 79) (pc' := 75) K dX2_isTurn_72 (by decide) rfl (fun c72 => ?_) (fun c72 => ?_)
        · refine zw_iconst (v := 0) (pc' := 80) K dX2_isTurn_79 (by decide) rfl ?_
          exact zw_zret K hE rfl dX2_isTurn_80 ⟨Nat.le_of_ble_eq_true rfl, Nat.le_of_ble_eq_true rfl⟩ (⟨by have el : zlast μ i a b = z := (by rw [hacc, hend6]; rfl); unfold ztq; rw [el, show zx z = k0 from by rw [ek0]; exact zx_n (by omega)]; simp [zb, c61, c72], rfl⟩)
        · refine zw_iconst (v := 1) (pc' := 76) K dX2_isTurn_75 (by decide) rfl ?_
          refine zw_goto (tgt := 80) K dX2_isTurn_76 (by decide) ?_
          exact zw_zret K hE rfl dX2_isTurn_80 ⟨Nat.le_of_ble_eq_true rfl, Nat.le_of_ble_eq_true rfl⟩ (⟨by have el : zlast μ i a b = z := (by rw [hacc, hend6]; rfl); unfold ztq; rw [el, show zx z = k0 from by rw [ek0]; exact zx_n (by omega)]; simp [zb, c61, c72], rfl⟩)
    · have hlt6 : k < i := zi_lt hxi rfl hi6 (by omega) c9
      refine zw_aload_n (v := .ref (ad 100 0 0)) (pc' := 13) K dX2_isTurn_12 rfl rfl rfl ?_
      refine zg_X2_7 (v := .ref (ad 101 0 0)) (pc' := 16) K hW.mo rfl dX2_isTurn_13 rfl ?_
      refine zw_iload (x := xi) (pc' := 18) K dX2_isTurn_16 rfl rfl ?_
      subst hxi
      refine zn_iald (j := k) (v := ((zv μ 0) k)) (pc' := 19) K hW.m0 rfl (by omega) rfl dX2_isTurn_18 rfl ?_
      refine zw_iconst (v := 1) (pc' := 20) K dX2_isTurn_19 (by decide) rfl ?_
      refine zw_icmp_ne (tgt := 48) (pc' := 23) K dX2_isTurn_20 (by decide) rfl (fun c20 => ?_) (fun c20 => ?_)
      · refine zw_iload (x := z) (pc' := 50) K dX2_isTurn_48 rfl rfl ?_
        refine zw_istore (lv' := [some (.ref (ad 100 0 0)), some (.int (nI i)), some (.int (nI a)), some (.int (nI b)), some (.int z), some (.int (nI k))]) (pc' := 52) K dX2_isTurn_50 (by decide) rfl rfl ?_
        refine zw_iinc (x := (nI k)) (lv' := [some (.ref (ad 100 0 0)), some (.int (nI i)), some (.int (nI a)), some (.int (nI b)), some (.int z), some (.int ((nI k) + 1))]) (pc' := 55) K dX2_isTurn_52 rfl (by decide) rfl rfl ?_
        refine zw_goto (tgt := 6) K dX2_isTurn_55 (by decide) ?_
        exact ih6 hlt6 ((nI k) + 1) z (nI_1 k) (by rw [zf_s, ← hacc]; simp [zlastF, c20]) (by rcases hz with q | ⟨k0, q1, q2⟩; exact Or.inl q; exact Or.inr ⟨k0, by omega, q2⟩)
      · refine zw_aload_n (v := .ref (ad 100 0 0)) (pc' := 24) K dX2_isTurn_23 rfl rfl rfl ?_
        refine zw_iload (x := (nI k)) (pc' := 26) K dX2_isTurn_24 rfl rfl ?_
        refine zw_iload_n (x := nI a) (pc' := 27) K dX2_isTurn_26 rfl rfl ?_
        refine zc_X2_81 (rest := []) (c' := 0) (n' := 0) (pc' := 30) K (ct_X2_stands hl hW k a (by omega) ha) hW.mo rfl rfl dX2_isTurn_27 rfl (Nat.le_of_ble_eq_true rfl) ⟨Nat.le_of_ble_eq_true rfl, Nat.le_of_ble_eq_true rfl⟩ ⟨Nat.le_of_ble_eq_true rfl, Nat.le_of_ble_eq_true rfl, Nat.le_of_ble_eq_true rfl, Nat.le_of_ble_eq_true rfl⟩ (zw_kp ?_) zw_kn
        refine zw_if_eq (tgt := 48) (pc' := 33) K dX2_isTurn_30 (by decide) rfl (fun c30 => ?_) (fun c30 => ?_)
        · have c30 := zb_0.mp c30
          refine zw_iload (x := z) (pc' := 50) K dX2_isTurn_48 rfl rfl ?_
          refine zw_istore (lv' := [some (.ref (ad 100 0 0)), some (.int (nI i)), some (.int (nI a)), some (.int (nI b)), some (.int z), some (.int (nI k))]) (pc' := 52) K dX2_isTurn_50 (by decide) rfl rfl ?_
          refine zw_iinc (x := (nI k)) (lv' := [some (.ref (ad 100 0 0)), some (.int (nI i)), some (.int (nI a)), some (.int (nI b)), some (.int z), some (.int ((nI k) + 1))]) (pc' := 55) K dX2_isTurn_52 rfl (by decide) rfl rfl ?_
          refine zw_goto (tgt := 6) K dX2_isTurn_55 (by decide) ?_
          exact ih6 hlt6 ((nI k) + 1) z (nI_1 k) (by rw [zf_s, ← hacc]; simp [zlastF, c20, c30]) (by rcases hz with q | ⟨k0, q1, q2⟩; exact Or.inl q; exact Or.inr ⟨k0, by omega, q2⟩)
        · have c30 := zb_nz.mp c30
          refine zw_aload_n (v := .ref (ad 100 0 0)) (pc' := 34) K dX2_isTurn_33 rfl rfl rfl ?_
          refine zw_iload (x := (nI k)) (pc' := 36) K dX2_isTurn_34 rfl rfl ?_
          refine zw_iload_n (x := nI b) (pc' := 37) K dX2_isTurn_36 rfl rfl ?_
          refine zc_X2_81 (rest := []) (c' := 0) (n' := 0) (pc' := 40) K (ct_X2_stands hl hW k b (by omega) hb) hW.mo rfl rfl dX2_isTurn_37 rfl (Nat.le_of_ble_eq_true rfl) ⟨Nat.le_of_ble_eq_true rfl, Nat.le_of_ble_eq_true rfl⟩ ⟨Nat.le_of_ble_eq_true rfl, Nat.le_of_ble_eq_true rfl, Nat.le_of_ble_eq_true rfl, Nat.le_of_ble_eq_true rfl⟩ (zw_kp ?_) zw_kn
          refine zw_if_eq (tgt := 48) (pc' := 43) K dX2_isTurn_40 (by decide) rfl (fun c40 => ?_) (fun c40 => ?_)
          · have c40 := zb_0.mp c40
            refine zw_iload (x := z) (pc' := 50) K dX2_isTurn_48 rfl rfl ?_
            refine zw_istore (lv' := [some (.ref (ad 100 0 0)), some (.int (nI i)), some (.int (nI a)), some (.int (nI b)), some (.int z), some (.int (nI k))]) (pc' := 52) K dX2_isTurn_50 (by decide) rfl rfl ?_
            refine zw_iinc (x := (nI k)) (lv' := [some (.ref (ad 100 0 0)), some (.int (nI i)), some (.int (nI a)), some (.int (nI b)), some (.int z), some (.int ((nI k) + 1))]) (pc' := 55) K dX2_isTurn_52 rfl (by decide) rfl rfl ?_
            refine zw_goto (tgt := 6) K dX2_isTurn_55 (by decide) ?_
            exact ih6 hlt6 ((nI k) + 1) z (nI_1 k) (by rw [zf_s, ← hacc]; simp [zlastF, c20, c30, c40]) (by rcases hz with q | ⟨k0, q1, q2⟩; exact Or.inl q; exact Or.inr ⟨k0, by omega, q2⟩)
          · have c40 := zb_nz.mp c40
            refine zw_iload (x := (nI k)) (pc' := 45) K dX2_isTurn_43 rfl rfl ?_
            refine zw_goto (tgt := 50) K dX2_isTurn_45 (by decide) ?_
            refine zw_istore (lv' := [some (.ref (ad 100 0 0)), some (.int (nI i)), some (.int (nI a)), some (.int (nI b)), some (.int (nI k)), some (.int (nI k))]) (pc' := 52) K dX2_isTurn_50 (by decide) rfl rfl ?_
            refine zw_iinc (x := (nI k)) (lv' := [some (.ref (ad 100 0 0)), some (.int (nI i)), some (.int (nI a)), some (.int (nI b)), some (.int (nI k)), some (.int ((nI k) + 1))]) (pc' := 55) K dX2_isTurn_52 rfl (by decide) rfl rfl ?_
            refine zw_goto (tgt := 6) K dX2_isTurn_55 (by decide) ?_
            exact ih6 hlt6 ((nI k) + 1) (nI k) (nI_1 k) (by rw [zf_s, ← hacc]; simp [zlastF, c20, c30, c40]) (Or.inr ⟨k, by omega, rfl⟩)
  exact L6 0 (Nat.zero_le _) 0 (-1) rfl rfl (Or.inl rfl)
set_option maxHeartbeats 2000000 in
theorem ct_X2_signOf {w : zw_W} {l : Launch} (hl : l.stackTraces = false) {M : zw_M} {ad : Nat → Nat → Nat → Nat} {σ μ : zS} {th : Int32} {o : Int64} (hW : zW w M ad σ μ th o) (hI : zJ μ) (i ja jb : Nat) (hi : i < zn μ) (hja : ja < 7) (hjb : jb < 7) : zw_C w l yX2_signOf cX2_signOf 10 (Option.some Jvm.ClassFile.FieldType.int) (zr 3 0 0) [.ref (ad 100 0 0), .int (nI i), .int (nI ja), .int (nI jb)] M (zw_pi fun r M1 => r = zsign μ i (nI ja) (nI jb) ∧ M1 = M) zw_no := by
  refine zw_enter RX2 rfl (by decide) hl (by simp [Value.category]) (Nat.le_of_ble_eq_true rfl) (fun X hXl hXw K hE htab hcon => ?_)
  subst hXl; subst hXw
  show zw_Z X _ 0 0 0 [some (.ref (ad 100 0 0)), some (.int (nI i)), some (.int (nI ja)), some (.int (nI jb)), none, none, none, none, none, none] []
  refine zw_aload_n (v := .ref (ad 100 0 0)) (pc' := 1) K dX2_signOf_0 rfl rfl rfl ?_
  refine zg_X2_7 (v := .ref (ad 101 0 0)) (pc' := 4) K hW.mo rfl dX2_signOf_1 rfl ?_
  refine zw_iload_n (x := nI i) (pc' := 5) K dX2_signOf_4 rfl rfl ?_
  refine zn_iald (j := i) (v := ((zv μ 0) i)) (pc' := 6) K hW.m0 rfl (by have := hI.n; omega) rfl dX2_signOf_5 rfl ?_
  refine zw_iconst (v := 1) (pc' := 7) K dX2_signOf_6 (by decide) rfl ?_
  refine zw_icmp_ne (tgt := 30) (pc' := 10) K dX2_signOf_7 (by decide) rfl (fun c7 => ?_) (fun c7 => ?_)
  · refine zw_iconst (v := 0) (pc' := 31) K dX2_signOf_30 (by decide) rfl ?_
    exact zw_iret K hE dX2_signOf_31 ⟨Nat.le_of_ble_eq_true rfl, Nat.le_of_ble_eq_true rfl⟩ (⟨by unfold zsign; rw [if_pos (by simp [c7])], rfl⟩)
  · obtain ⟨jw, hjw, ew, hsw⟩ := hI.wi hi c7
    have J32 : ((zv μ 1 i == nI ja || zv μ 1 i == nI jb) = true) → zw_Z X M 0 0 32 [some (.ref (ad 100 0 0)), some (.int (nI i)), some (.int (nI ja)), some (.int (nI jb)), none, none, none, none, none, none] [] := by
      intro  hab
      refine zw_aload_n (v := .ref (ad 100 0 0)) (pc' := 33) K dX2_signOf_32 rfl rfl rfl ?_
      have J51 : ∀ (jo : Nat), (jo < 7) → ((if nI jw = nI ja then nI jb else nI ja) = nI jo) → zw_Z X M 0 0 51 [some (.ref (ad 100 0 0)), some (.int (nI i)), some (.int (nI ja)), some (.int (nI jb)), some (.int (nI jw)), none, none, none, none, none] [.int (nI jo)] := by
        intro jo hjo eo
        refine zw_istore (lv' := [some (.ref (ad 100 0 0)), some (.int (nI i)), some (.int (nI ja)), some (.int (nI jb)), some (.int (nI jw)), some (.int (nI jo)), none, none, none, none]) (pc' := 53) K dX2_signOf_51 (by decide) rfl rfl ?_
        refine zw_bipush (v := 7) (pc' := 55) K dX2_signOf_53 (by decide) rfl ?_
        refine zw_iload_n (x := nI i) (pc' := 56) K dX2_signOf_55 rfl rfl ?_
        refine zw_imul (pc' := 57) K dX2_signOf_56 rfl ?_
        refine zw_iload (x := nI jo) (pc' := 59) K dX2_signOf_57 rfl rfl ?_
        refine zw_iadd (pc' := 60) K dX2_signOf_59 rfl ?_
        rw [zx_7 i jo]
        refine zw_istore (lv' := [some (.ref (ad 100 0 0)), some (.int (nI i)), some (.int (nI ja)), some (.int (nI jb)), some (.int (nI jw)), some (.int (nI jo)), some (.int (nI (7 * i + jo))), none, none, none]) (pc' := 62) K dX2_signOf_60 (by decide) rfl rfl ?_
        refine zw_aload_n (v := .ref (ad 100 0 0)) (pc' := 63) K dX2_signOf_62 rfl rfl rfl ?_
        refine zg_X2_22 (v := .ref (ad 105 0 0)) (pc' := 66) K hW.mo rfl dX2_signOf_63 rfl ?_
        refine zw_iload (x := nI (7 * i + jo)) (pc' := 68) K dX2_signOf_66 rfl rfl ?_
        refine zn_iald (j := 7 * i + jo) (v := ((zv μ 4) (7 * i + jo))) (pc' := 69) K hW.m4 rfl (by have := hI.n; omega) rfl dX2_signOf_68 rfl ?_
        refine zw_aload_n (v := .ref (ad 100 0 0)) (pc' := 70) K dX2_signOf_69 rfl rfl rfl ?_
        refine zw_iload_n (x := nI i) (pc' := 71) K dX2_signOf_70 rfl rfl ?_
        refine zc_X2_92 (rest := [.int ((zv μ 4) (7 * i + jo))]) (c' := 0) (n' := 0) (pc' := 74) K (ct_X2_price hl hW i (by have := hI.n; omega) ⟨jw, hjw, ew⟩) hW.mo rfl rfl dX2_signOf_71 rfl (Nat.le_of_ble_eq_true rfl) ⟨Nat.le_of_ble_eq_true rfl, Nat.le_of_ble_eq_true rfl⟩ ⟨Nat.le_of_ble_eq_true rfl, Nat.le_of_ble_eq_true rfl, Nat.le_of_ble_eq_true rfl, Nat.le_of_ble_eq_true rfl⟩ (zw_kp ?_) zw_kn
        refine zw_isub (pc' := 75) K dX2_signOf_74 rfl ?_
        refine zw_istore (lv' := [some (.ref (ad 100 0 0)), some (.int (nI i)), some (.int (nI ja)), some (.int (nI jb)), some (.int (nI jw)), some (.int (nI jo)), some (.int (nI (7 * i + jo))), some (.int (((zv μ 4) (7 * i + jo)) - (zprice μ i))), none, none]) (pc' := 77) K dX2_signOf_75 (by decide) rfl rfl ?_
        refine zw_aload_n (v := .ref (ad 100 0 0)) (pc' := 78) K dX2_signOf_77 rfl rfl rfl ?_
        refine zw_iload_n (x := nI i) (pc' := 79) K dX2_signOf_78 rfl rfl ?_
        refine zw_iload (x := nI jo) (pc' := 81) K dX2_signOf_79 rfl rfl ?_
        refine zc_X2_81 (rest := []) (c' := 0) (n' := 0) (pc' := 84) K (ct_X2_stands hl hW i jo (by have := hI.n; omega) hjo) hW.mo rfl rfl dX2_signOf_81 rfl (Nat.le_of_ble_eq_true rfl) ⟨Nat.le_of_ble_eq_true rfl, Nat.le_of_ble_eq_true rfl⟩ ⟨Nat.le_of_ble_eq_true rfl, Nat.le_of_ble_eq_true rfl, Nat.le_of_ble_eq_true rfl, Nat.le_of_ble_eq_true rfl⟩ (zw_kp ?_) zw_kn
        refine zw_istore (lv' := [some (.ref (ad 100 0 0)), some (.int (nI i)), some (.int (nI ja)), some (.int (nI jb)), some (.int (nI jw)), some (.int (nI jo)), some (.int (nI (7 * i + jo))), some (.int (((zv μ 4) (7 * i + jo)) - (zprice μ i))), some (.int (zb (zst μ i jo))), none]) (pc' := 86) K dX2_signOf_84 (by decide) rfl rfl ?_
        have J116 : ∀ (f1 : Int32), (f1 = (if (zst μ i jo && decide (0 < zv μ 4 (7 * i + jo) - zprice μ i) && decide (zv μ 4 (7 * i + jo) - zprice μ i ≤ zprice μ i * 5 / 100)) = true then 2 else 0)) → zw_Z X M 0 0 116 [some (.ref (ad 100 0 0)), some (.int (nI i)), some (.int (nI ja)), some (.int (nI jb)), some (.int (nI jw)), some (.int (nI jo)), some (.int (nI (7 * i + jo))), some (.int (((zv μ 4) (7 * i + jo)) - (zprice μ i))), some (.int (zb (zst μ i jo))), none] [.int f1] := by
          intro f1 hf1
          refine zw_istore (lv' := [some (.ref (ad 100 0 0)), some (.int (nI i)), some (.int (nI ja)), some (.int (nI jb)), some (.int (nI jw)), some (.int (nI jo)), some (.int (nI (7 * i + jo))), some (.int (((zv μ 4) (7 * i + jo)) - (zprice μ i))), some (.int (zb (zst μ i jo))), some (.int f1)]) (pc' := 118) K dX2_signOf_116 (by decide) rfl rfl ?_
          refine zw_iload (x := f1) (pc' := 120) K dX2_signOf_118 rfl rfl ?_
          have J146 : ∀ (f2 : Int32), (f2 = (if (zv μ 2 i == nI jo && decide (0 < zv μ 4 (7 * i + jo))) = true then 3 else 0)) → zw_Z X M 0 0 146 [some (.ref (ad 100 0 0)), some (.int (nI i)), some (.int (nI ja)), some (.int (nI jb)), some (.int (nI jw)), some (.int (nI jo)), some (.int (nI (7 * i + jo))), some (.int (((zv μ 4) (7 * i + jo)) - (zprice μ i))), some (.int (zb (zst μ i jo))), some (.int f1)] [.int f2, .int f1] := by
            intro f2 hf2
            refine zw_iadd (pc' := 147) K dX2_signOf_146 rfl ?_
            refine zw_istore (lv' := [some (.ref (ad 100 0 0)), some (.int (nI i)), some (.int (nI ja)), some (.int (nI jb)), some (.int (nI jw)), some (.int (nI jo)), some (.int (nI (7 * i + jo))), some (.int (((zv μ 4) (7 * i + jo)) - (zprice μ i))), some (.int (zb (zst μ i jo))), some (.int (f1 + f2))]) (pc' := 149) K dX2_signOf_147 (by decide) rfl rfl ?_
            refine zw_iload (x := f1 + f2) (pc' := 151) K dX2_signOf_149 rfl rfl ?_
            have J166 : ∀ (f3 : Int32), (f3 = zb (!(zv μ 5 (7 * i + jo) == 0))) → zw_Z X M 0 0 166 [some (.ref (ad 100 0 0)), some (.int (nI i)), some (.int (nI ja)), some (.int (nI jb)), some (.int (nI jw)), some (.int (nI jo)), some (.int (nI (7 * i + jo))), some (.int (((zv μ 4) (7 * i + jo)) - (zprice μ i))), some (.int (zb (zst μ i jo))), some (.int (f1 + f2))] [.int f3, .int (f1 + f2)] := by
              intro f3 hf3
              refine zw_iadd (pc' := 167) K dX2_signOf_166 rfl ?_
              refine zw_istore (lv' := [some (.ref (ad 100 0 0)), some (.int (nI i)), some (.int (nI ja)), some (.int (nI jb)), some (.int (nI jw)), some (.int (nI jo)), some (.int (nI (7 * i + jo))), some (.int (((zv μ 4) (7 * i + jo)) - (zprice μ i))), some (.int (zb (zst μ i jo))), some (.int ((f1 + f2) + f3))]) (pc' := 169) K dX2_signOf_167 (by decide) rfl rfl ?_
              refine zw_iload (x := (f1 + f2) + f3) (pc' := 171) K dX2_signOf_169 rfl rfl ?_
              have J193 : ∀ (f4 : Int32), (f4 = (if (zst μ i jo && ztq μ i jw jo (nI jo)) = true then 4 else 0)) → zw_Z X M 0 0 193 [some (.ref (ad 100 0 0)), some (.int (nI i)), some (.int (nI ja)), some (.int (nI jb)), some (.int (nI jw)), some (.int (nI jo)), some (.int (nI (7 * i + jo))), some (.int (((zv μ 4) (7 * i + jo)) - (zprice μ i))), some (.int (zb (zst μ i jo))), some (.int ((f1 + f2) + f3))] [.int f4, .int (f1 + f2 + f3)] := by
                intro f4 hf4
                refine zw_iadd (pc' := 194) K dX2_signOf_193 rfl ?_
                refine zw_istore (lv' := [some (.ref (ad 100 0 0)), some (.int (nI i)), some (.int (nI ja)), some (.int (nI jb)), some (.int (nI jw)), some (.int (nI jo)), some (.int (nI (7 * i + jo))), some (.int (((zv μ 4) (7 * i + jo)) - (zprice μ i))), some (.int (zb (zst μ i jo))), some (.int ((f1 + f2 + f3) + f4))]) (pc' := 196) K dX2_signOf_194 (by decide) rfl rfl ?_
                refine zw_iload (x := (f1 + f2 + f3) + f4) (pc' := 198) K dX2_signOf_196 rfl rfl ?_
                exact zw_iret K hE dX2_signOf_198 ⟨Nat.le_of_ble_eq_true rfl, Nat.le_of_ble_eq_true rfl⟩ (⟨by unfold zsign; rw [if_neg (by simp [c7, hab]), ew, eo]; unfold zsig; rw [zx_n (show jo < 2 ^ 31 by omega), zx_n (show jw < 2 ^ 31 by omega), hf1, hf2, hf3, hf4], rfl⟩)
              refine zw_iload (x := zb (zst μ i jo)) (pc' := 173) K dX2_signOf_171 rfl rfl ?_
              refine zw_if_eq (tgt := 192) (pc' := 176) K dX2_signOf_173 (by decide) rfl (fun c173 => ?_) (fun c173 => ?_)
              · have c173 := zb_0.mp c173
                refine zw_iconst (v := 0) (pc' := 193) K dX2_signOf_192 (by decide) rfl ?_
                exact J193 0 (by simp [c173])
              · have c173 := zb_nz.mp c173
                refine zw_aload_n (v := .ref (ad 100 0 0)) (pc' := 177) K dX2_signOf_176 rfl rfl rfl ?_
                refine zw_iload_n (x := nI i) (pc' := 178) K dX2_signOf_177 rfl rfl ?_
                refine zw_iload (x := nI jw) (pc' := 180) K dX2_signOf_178 rfl rfl ?_
                refine zw_iload (x := nI jo) (pc' := 182) K dX2_signOf_180 rfl rfl ?_
                refine zc_X2_98 (rest := [.int ((f1 + f2) + f3)]) (c' := 0) (n' := 0) (pc' := 185) K (ct_X2_isTurn hl hW i jw jo (by have := hI.n; omega) hjw hjo) hW.mo rfl rfl dX2_signOf_182 rfl (Nat.le_of_ble_eq_true rfl) ⟨Nat.le_of_ble_eq_true rfl, Nat.le_of_ble_eq_true rfl⟩ ⟨Nat.le_of_ble_eq_true rfl, Nat.le_of_ble_eq_true rfl, Nat.le_of_ble_eq_true rfl, Nat.le_of_ble_eq_true rfl⟩ (zw_kp ?_) zw_kn
                refine zw_if_eq (tgt := 192) (pc' := 188) K dX2_signOf_185 (by decide) rfl (fun c185 => ?_) (fun c185 => ?_)
                · have c185 := zb_0.mp c185
                  refine zw_iconst (v := 0) (pc' := 193) K dX2_signOf_192 (by decide) rfl ?_
                  exact J193 0 (by simp [c173, c185])
                · have c185 := zb_nz.mp c185
                  refine zw_iconst (v := 4) (pc' := 189) K dX2_signOf_188 (by decide) rfl ?_
                  refine zw_goto (tgt := 193) K dX2_signOf_189 (by decide) ?_
                  exact J193 4 (by simp [c173, c185])
            refine zw_aload_n (v := .ref (ad 100 0 0)) (pc' := 152) K dX2_signOf_151 rfl rfl rfl ?_
            refine zg_X2_25 (v := .ref (ad 106 0 0)) (pc' := 155) K hW.mo rfl dX2_signOf_152 rfl ?_
            refine zw_iload (x := nI (7 * i + jo)) (pc' := 157) K dX2_signOf_155 rfl rfl ?_
            refine zn_zald (j := 7 * i + jo) (v := ((zv μ 5) (7 * i + jo))) (pc' := 158) K hW.m5 rfl (by have := hI.n; omega) rfl dX2_signOf_157 rfl ?_
            refine zw_if_eq (tgt := 165) (pc' := 161) K dX2_signOf_158 (by decide) rfl (fun c158 => ?_) (fun c158 => ?_)
            · refine zw_iconst (v := 0) (pc' := 166) K dX2_signOf_165 (by decide) rfl ?_
              exact J166 0 (by simp [zb, c158])
            · refine zw_iconst (v := 1) (pc' := 162) K dX2_signOf_161 (by decide) rfl ?_
              refine zw_goto (tgt := 166) K dX2_signOf_162 (by decide) ?_
              exact J166 1 (by simp [zb, c158])
          refine zw_aload_n (v := .ref (ad 100 0 0)) (pc' := 121) K dX2_signOf_120 rfl rfl rfl ?_
          refine zg_X2_16 (v := .ref (ad 103 0 0)) (pc' := 124) K hW.mo rfl dX2_signOf_121 rfl ?_
          refine zw_iload_n (x := nI i) (pc' := 125) K dX2_signOf_124 rfl rfl ?_
          refine zn_iald (j := i) (v := ((zv μ 2) i)) (pc' := 126) K hW.m2 rfl (by have := hI.n; omega) rfl dX2_signOf_125 rfl ?_
          refine zw_iload (x := nI jo) (pc' := 128) K dX2_signOf_126 rfl rfl ?_
          refine zw_icmp_ne (tgt := 145) (pc' := 131) K dX2_signOf_128 (by decide) rfl (fun c128 => ?_) (fun c128 => ?_)
          · refine zw_iconst (v := 0) (pc' := 146) K dX2_signOf_145 (by decide) rfl ?_
            exact J146 0 (by simp [c128])
          · refine zw_aload_n (v := .ref (ad 100 0 0)) (pc' := 132) K dX2_signOf_131 rfl rfl rfl ?_
            refine zg_X2_22 (v := .ref (ad 105 0 0)) (pc' := 135) K hW.mo rfl dX2_signOf_132 rfl ?_
            refine zw_iload (x := nI (7 * i + jo)) (pc' := 137) K dX2_signOf_135 rfl rfl ?_
            refine zn_iald (j := 7 * i + jo) (v := ((zv μ 4) (7 * i + jo))) (pc' := 138) K hW.m4 rfl (by have := hI.n; omega) rfl dX2_signOf_137 rfl ?_
            refine zw_if_le (tgt := 145) (pc' := 141) K dX2_signOf_138 (by decide) rfl (fun c138 => ?_) (fun c138 => ?_)
            · refine zw_iconst (v := 0) (pc' := 146) K dX2_signOf_145 (by decide) rfl ?_
              exact J146 0 (by simp [c128, Int32.not_lt.mpr c138])
            · refine zw_iconst (v := 3) (pc' := 142) K dX2_signOf_141 (by decide) rfl ?_
              refine zw_goto (tgt := 146) K dX2_signOf_142 (by decide) ?_
              exact J146 3 (by simp [c128, Int32.not_le.mp c138])
        refine zw_iload (x := zb (zst μ i jo)) (pc' := 88) K dX2_signOf_86 rfl rfl ?_
        refine zw_if_eq (tgt := 115) (pc' := 91) K dX2_signOf_88 (by decide) rfl (fun c88 => ?_) (fun c88 => ?_)
        · have c88 := zb_0.mp c88
          refine zw_iconst (v := 0) (pc' := 116) K dX2_signOf_115 (by decide) rfl ?_
          exact J116 0 (by simp [c88])
        · have c88 := zb_nz.mp c88
          refine zw_iload (x := ((zv μ 4) (7 * i + jo)) - (zprice μ i)) (pc' := 93) K dX2_signOf_91 rfl rfl ?_
          refine zw_if_le (tgt := 115) (pc' := 96) K dX2_signOf_93 (by decide) rfl (fun c93 => ?_) (fun c93 => ?_)
          · refine zw_iconst (v := 0) (pc' := 116) K dX2_signOf_115 (by decide) rfl ?_
            exact J116 0 (by simp [c88, Int32.not_lt.mpr c93])
          · refine zw_iload (x := ((zv μ 4) (7 * i + jo)) - (zprice μ i)) (pc' := 98) K dX2_signOf_96 rfl rfl ?_
            refine zw_aload_n (v := .ref (ad 100 0 0)) (pc' := 99) K dX2_signOf_98 rfl rfl rfl ?_
            refine zw_iload_n (x := nI i) (pc' := 100) K dX2_signOf_99 rfl rfl ?_
            refine zc_X2_92 (rest := [.int (((zv μ 4) (7 * i + jo)) - (zprice μ i))]) (c' := 0) (n' := 0) (pc' := 103) K (ct_X2_price hl hW i (by have := hI.n; omega) ⟨jw, hjw, ew⟩) hW.mo rfl rfl dX2_signOf_100 rfl (Nat.le_of_ble_eq_true rfl) ⟨Nat.le_of_ble_eq_true rfl, Nat.le_of_ble_eq_true rfl⟩ ⟨Nat.le_of_ble_eq_true rfl, Nat.le_of_ble_eq_true rfl, Nat.le_of_ble_eq_true rfl, Nat.le_of_ble_eq_true rfl⟩ (zw_kp ?_) zw_kn
            refine zw_iconst (v := 5) (pc' := 104) K dX2_signOf_103 (by decide) rfl ?_
            refine zw_imul (pc' := 105) K dX2_signOf_104 rfl ?_
            refine zw_bipush (v := 100) (pc' := 107) K dX2_signOf_105 (by decide) rfl ?_
            refine zw_idiv (pc' := 108) K dX2_signOf_107 (by decide) rfl ?_
            refine zw_icmp_gt (tgt := 115) (pc' := 111) K dX2_signOf_108 (by decide) rfl (fun c108 => ?_) (fun c108 => ?_)
            · refine zw_iconst (v := 0) (pc' := 116) K dX2_signOf_115 (by decide) rfl ?_
              exact J116 0 (by simp [c88, Int32.not_le.mp c93, Int32.not_le.mpr c108])
            · refine zw_iconst (v := 2) (pc' := 112) K dX2_signOf_111 (by decide) rfl ?_
              refine zw_goto (tgt := 116) K dX2_signOf_112 (by decide) ?_
              exact J116 2 (by simp [c88, Int32.not_le.mp c93, Int32.not_lt.mp c108])
      refine zg_X2_13 (v := .ref (ad 102 0 0)) (pc' := 36) K hW.mo rfl dX2_signOf_33 rfl ?_
      refine zw_iload_n (x := nI i) (pc' := 37) K dX2_signOf_36 rfl rfl ?_
      refine zn_iald (j := i) (v := (nI jw)) (pc' := 38) K hW.m1 rfl (by have := hI.n; omega) ew dX2_signOf_37 rfl ?_
      refine zw_istore (lv' := [some (.ref (ad 100 0 0)), some (.int (nI i)), some (.int (nI ja)), some (.int (nI jb)), some (.int (nI jw)), none, none, none, none, none]) (pc' := 40) K dX2_signOf_38 (by decide) rfl rfl ?_
      refine zw_iload (x := nI jw) (pc' := 42) K dX2_signOf_40 rfl rfl ?_
      refine zw_iload_n (x := nI ja) (pc' := 43) K dX2_signOf_42 rfl rfl ?_
      refine zw_icmp_ne (tgt := 50) (pc' := 46) K dX2_signOf_43 (by decide) rfl (fun c43 => ?_) (fun c43 => ?_)
      · refine zw_iload_n (x := nI ja) (pc' := 51) K dX2_signOf_50 rfl rfl ?_
        exact J51 ja hja (by rw [if_neg c43])
      · refine zw_iload_n (x := nI jb) (pc' := 47) K dX2_signOf_46 rfl rfl ?_
        refine zw_goto (tgt := 51) K dX2_signOf_47 (by decide) ?_
        exact J51 jb hjb (by rw [if_pos c43])
    refine zw_aload_n (v := .ref (ad 100 0 0)) (pc' := 11) K dX2_signOf_10 rfl rfl rfl ?_
    refine zg_X2_13 (v := .ref (ad 102 0 0)) (pc' := 14) K hW.mo rfl dX2_signOf_11 rfl ?_
    refine zw_iload_n (x := nI i) (pc' := 15) K dX2_signOf_14 rfl rfl ?_
    refine zn_iald (j := i) (v := ((zv μ 1) i)) (pc' := 16) K hW.m1 rfl (by have := hI.n; omega) rfl dX2_signOf_15 rfl ?_
    refine zw_iload_n (x := nI ja) (pc' := 17) K dX2_signOf_16 rfl rfl ?_
    refine zw_icmp_eq (tgt := 32) (pc' := 20) K dX2_signOf_17 (by decide) rfl (fun c17 => ?_) (fun c17 => ?_)
    · exact J32 (by simp [c17])
    · refine zw_aload_n (v := .ref (ad 100 0 0)) (pc' := 21) K dX2_signOf_20 rfl rfl rfl ?_
      refine zg_X2_13 (v := .ref (ad 102 0 0)) (pc' := 24) K hW.mo rfl dX2_signOf_21 rfl ?_
      refine zw_iload_n (x := nI i) (pc' := 25) K dX2_signOf_24 rfl rfl ?_
      refine zn_iald (j := i) (v := ((zv μ 1) i)) (pc' := 26) K hW.m1 rfl (by have := hI.n; omega) rfl dX2_signOf_25 rfl ?_
      refine zw_iload_n (x := nI jb) (pc' := 27) K dX2_signOf_26 rfl rfl ?_
      refine zw_icmp_eq (tgt := 32) (pc' := 30) K dX2_signOf_27 (by decide) rfl (fun c27 => ?_) (fun c27 => ?_)
      · exact J32 (by simp [c17, c27])
      · refine zw_iconst (v := 0) (pc' := 31) K dX2_signOf_30 (by decide) rfl ?_
        exact zw_iret K hE dX2_signOf_31 ⟨Nat.le_of_ble_eq_true rfl, Nat.le_of_ble_eq_true rfl⟩ (⟨by unfold zsign; rw [if_pos (by simp [c7, c17, c27])], rfl⟩)
set_option maxHeartbeats 2000000 in
theorem ct_X2_suspicionOf {w : zw_W} {l : Launch} (hl : l.stackTraces = false) {M : zw_M} {ad : Nat → Nat → Nat → Nat} {σ μ : zS} {th : Int32} {o : Int64} (hW : zW w M ad σ μ th o) (hI : zJ μ) (ja jb : Nat) (hja : ja < 7) (hjb : jb < 7) : zw_C w l yX2_suspicionOf cX2_suspicionOf 5 (Option.some Jvm.ClassFile.FieldType.int) (zr 4 0 0) [.ref (ad 100 0 0), .int (nI ja), .int (nI jb)] M (zw_pi fun r M1 => r = zsusp μ (nI ja) (nI jb) ∧ M1 = M) zw_no := by
  refine zw_enter RX2 rfl (by decide) hl (by simp [Value.category]) (Nat.le_of_ble_eq_true rfl) (fun X hXl hXw K hE htab hcon => ?_)
  subst hXl; subst hXw
  show zw_Z X _ 0 0 0 [some (.ref (ad 100 0 0)), some (.int (nI ja)), some (.int (nI jb)), none, none] []
  refine zw_iconst (v := 0) (pc' := 1) K dX2_suspicionOf_0 (by decide) rfl ?_
  refine zw_istore_n (lv' := [some (.ref (ad 100 0 0)), some (.int (nI ja)), some (.int (nI jb)), some (.int 0), none]) (pc' := 2) K dX2_suspicionOf_1 (by decide) rfl rfl ?_
  refine zw_iconst (v := 0) (pc' := 3) K dX2_suspicionOf_2 (by decide) rfl ?_
  refine zw_istore (lv' := [some (.ref (ad 100 0 0)), some (.int (nI ja)), some (.int (nI jb)), some (.int 0), some (.int 0)]) (pc' := 5) K dX2_suspicionOf_3 (by decide) rfl rfl ?_
  have L5 : ∀ i : Nat, i ≤ zn μ → ∀ (xi : Int32) (acc : Int32), xi = nI i → (acc = zf (zsuspF μ (nI ja) (nI jb)) i 0) → zw_Z X M 0 0 5 [some (.ref (ad 100 0 0)), some (.int (nI ja)), some (.int (nI jb)), some (.int acc), some (.int xi)] [] := by
    refine zl_up (fun i hi5 ih5 => ?_)
    intro xi acc hxi hacc
    refine zw_iload (x := xi) (pc' := 7) K dX2_suspicionOf_5 rfl rfl ?_
    refine zw_aload_n (v := .ref (ad 100 0 0)) (pc' := 8) K dX2_suspicionOf_7 rfl rfl rfl ?_
    refine zg_X2_67 (v := .int (nI (zn μ))) (pc' := 11) K hW.mo rfl dX2_suspicionOf_8 rfl ?_
    refine zw_icmp_ge (tgt := 31) (pc' := 14) K dX2_suspicionOf_11 (by decide) rfl (fun c11 => ?_) (fun c11 => ?_)
    · have hend5 : i = zn μ := zi_ge hxi rfl hi5 (by have := hI.n; omega) c11
      refine zw_iload_n (x := acc) (pc' := 32) K dX2_suspicionOf_31 rfl rfl ?_
      exact zw_iret K hE dX2_suspicionOf_32 ⟨Nat.le_of_ble_eq_true rfl, Nat.le_of_ble_eq_true rfl⟩ (⟨by rw [hacc, hend5]; rfl, rfl⟩)
    · have hlt5 : i < zn μ := zi_lt hxi rfl hi5 (by have := hI.n; omega) c11
      refine zw_iload_n (x := acc) (pc' := 15) K dX2_suspicionOf_14 rfl rfl ?_
      refine zw_aload_n (v := .ref (ad 100 0 0)) (pc' := 16) K dX2_suspicionOf_15 rfl rfl rfl ?_
      refine zw_iload (x := xi) (pc' := 18) K dX2_suspicionOf_16 rfl rfl ?_
      refine zw_iload_n (x := nI ja) (pc' := 19) K dX2_suspicionOf_18 rfl rfl ?_
      refine zw_iload_n (x := nI jb) (pc' := 20) K dX2_suspicionOf_19 rfl rfl ?_
      subst hxi
      refine zc_X2_101 (rest := [.int acc]) (c' := 0) (n' := 0) (pc' := 23) K (ct_X2_signOf hl hW hI i ja jb hlt5 hja hjb) hW.mo rfl rfl dX2_suspicionOf_20 rfl (Nat.le_of_ble_eq_true rfl) ⟨Nat.le_of_ble_eq_true rfl, Nat.le_of_ble_eq_true rfl⟩ ⟨Nat.le_of_ble_eq_true rfl, Nat.le_of_ble_eq_true rfl, Nat.le_of_ble_eq_true rfl, Nat.le_of_ble_eq_true rfl⟩ (zw_kp ?_) zw_kn
      refine zw_iadd (pc' := 24) K dX2_suspicionOf_23 rfl ?_
      refine zw_istore_n (lv' := [some (.ref (ad 100 0 0)), some (.int (nI ja)), some (.int (nI jb)), some (.int (acc + (zsign μ i (nI ja) (nI jb)))), some (.int (nI i))]) (pc' := 25) K dX2_suspicionOf_24 (by decide) rfl rfl ?_
      refine zw_iinc (x := (nI i)) (lv' := [some (.ref (ad 100 0 0)), some (.int (nI ja)), some (.int (nI jb)), some (.int (acc + (zsign μ i (nI ja) (nI jb)))), some (.int ((nI i) + 1))]) (pc' := 28) K dX2_suspicionOf_25 rfl (by decide) rfl rfl ?_
      refine zw_goto (tgt := 5) K dX2_suspicionOf_28 (by decide) ?_
      exact ih5 hlt5 ((nI i) + 1) (acc + (zsign μ i (nI ja) (nI jb))) (nI_1 i) (by rw [zf_s, ← hacc]; rfl)
  exact L5 0 (Nat.zero_le _) 0 0 rfl rfl
