/-! CartelWatch: bid -/
set_option maxRecDepth 100000
set_option maxHeartbeats 2000000 in
theorem ct_X1_bid {w : zw_W} {la : Launch} (hl : la.stackTraces = false) {M : zw_M} {ad : Nat → Nat → Nat → Nat} {σ μ : zS} {th : Int32} {o : Int64} (hW : zW w M ad σ μ th o) (hI : zI σ) (t b x : Int32) : zw_C w la yX1_bid cX1_bid 7 (Option.some Jvm.ClassFile.FieldType.int) (zr 8 5 26) [.ref (ad 0 0 0), .int t, .int b, .int x] M (zw_pi (zPo w ad μ th o (zop_bid σ t b x))) (zPx ["java/lang/IndexOutOfBoundsException", "java/lang/IllegalArgumentException", "java/lang/IllegalStateException"] w ad σ μ th o (zop_bid σ t b x)) := by
  refine zw_enter RX1 rfl (by decide) hl (by simp [Value.category]) (Nat.le_of_ble_eq_true rfl) (fun X hXl hXw K hE htab hcon => ?_)
  subst hXl; subst hXw
  show zw_Z X _ 0 0 0 [some (.ref (ad 0 0 0)), some (.int t), some (.int b), some (.int x), none, none, none] []
  refine zw_aload_n (v := .ref (ad 0 0 0)) (pc' := 1) K dX1_bid_0 rfl rfl rfl ?_
  refine zg_X1_26 (v := .ref (ad 1 0 0)) (pc' := 4) K hW.c0 rfl dX1_bid_1 rfl ?_
  refine zw_iload_n (x := t) (pc' := 5) K dX1_bid_4 rfl rfl ?_
  refine zc_X1_86 (rest := []) (c' := 1) (n' := 6) (pc' := 8) K (ct_X1_at hl M (ad 1 0 0) (zn σ) t hW.c1 (by have := hI.n; omega)) rfl rfl dX1_bid_5 rfl (Nat.le_of_ble_eq_true rfl) ⟨Nat.le_of_ble_eq_true rfl, Nat.le_of_ble_eq_true rfl⟩ ⟨Nat.le_of_ble_eq_true rfl, Nat.le_of_ble_eq_true rfl, Nat.le_of_ble_eq_true rfl, Nat.le_of_ble_eq_true rfl⟩ (zw_kr fun r M1 h => ?_) (fun E M1 h => ?_)
  · obtain ⟨hr, h1, hM⟩ := h
    have hM := hM.symm
    subst hM
    obtain ⟨j, hj, ej⟩ := zin_of h1 (by have := hI.n; omega)
    subst ej
    have hr : r = some (ad 10 j 0) := by rw [hr, zx_n (by have := hI.n; omega)]
    subst hr
    refine zw_cast (ci := 1) (pc' := 11) K rfl q156 (hW.c10 hj) dX1_bid_8 rfl ?_
    refine zw_astore (lv' := [some (.ref (ad 0 0 0)), some (.int (nI j)), some (.int b), some (.int x), some (.ref (ad 10 j 0)), none, none]) (pc' := 13) K dX1_bid_11 rfl (by decide) rfl rfl ?_
    refine zw_iload_n (x := b) (pc' := 14) K dX1_bid_13 rfl rfl ?_
    refine zc_X1_54 (rest := []) (c' := 2) (n' := 12) (pc' := 17) K (ct_X1_bidder hl M b) rfl rfl dX1_bid_14 rfl (Nat.le_of_ble_eq_true rfl) ⟨Nat.le_of_ble_eq_true rfl, Nat.le_of_ble_eq_true rfl⟩ ⟨Nat.le_of_ble_eq_true rfl, Nat.le_of_ble_eq_true rfl, Nat.le_of_ble_eq_true rfl, Nat.le_of_ble_eq_true rfl⟩ (zw_ki fun r M1 h => ?_) (fun E M1 h => ?_)
    · obtain ⟨hr, h2, hM⟩ := h
      have hM := hM.symm
      subst hM
      rw [hr]
      obtain ⟨k, hk, ek⟩ := zin_of h2 (by decide)
      subst ek
      refine zw_pop (pc' := 18) K dX1_bid_17 rfl rfl ?_
      refine zw_iload_n (x := x) (pc' := 19) K dX1_bid_18 rfl rfl ?_
      refine zw_iconst (v := 1) (pc' := 20) K dX1_bid_19 (by decide) rfl ?_
      refine zw_ldc (v := 100000) (pc' := 22) K q424 dX1_bid_20 rfl ?_
      refine zc_X1_50 (rest := []) (c' := 3) (n' := 18) (pc' := 25) K (ct_X1_in hl M x 1 100000) rfl rfl dX1_bid_22 rfl (Nat.le_of_ble_eq_true rfl) ⟨Nat.le_of_ble_eq_true rfl, Nat.le_of_ble_eq_true rfl⟩ ⟨Nat.le_of_ble_eq_true rfl, Nat.le_of_ble_eq_true rfl, Nat.le_of_ble_eq_true rfl, Nat.le_of_ble_eq_true rfl⟩ (zw_ki fun r M1 h => ?_) (fun E M1 h => ?_)
      · obtain ⟨hr, h3, hM⟩ := h
        have hM := hM.symm
        subst hM
        rw [hr]
        refine zw_pop (pc' := 26) K dX1_bid_25 rfl rfl ?_
        refine zw_aload (v := .ref (ad 10 j 0)) (pc' := 28) K dX1_bid_26 rfl rfl rfl ?_
        refine zg_X1_91 (v := .int (if zv σ 0 j = 0 then 1 else 0)) (pc' := 31) K (hW.c10 hj) rfl dX1_bid_28 rfl ?_
        refine zw_if_eq (tgt := 48) (pc' := 34) K dX1_bid_31 (by decide) rfl (fun c31 => ?_) (fun c31 => ?_)
        · refine zw_iconst (v := 0) (pc' := 49) K dX1_bid_48 (by decide) rfl ?_
          refine zc_X1_75 (rest := []) (c' := 4) (n' := 24) (pc' := 52) K (ct_X1_must hl M false) rfl rfl dX1_bid_49 rfl (Nat.le_of_ble_eq_true rfl) ⟨Nat.le_of_ble_eq_true rfl, Nat.le_of_ble_eq_true rfl⟩ ⟨Nat.le_of_ble_eq_true rfl, Nat.le_of_ble_eq_true rfl, Nat.le_of_ble_eq_true rfl, Nat.le_of_ble_eq_true rfl⟩ (zw_kv fun M1 h => absurd h.1 (by decide)) (fun E M1 h => ?_)
          obtain ⟨h0, -, hM⟩ := h
          have hM := hM.symm
          subst h0; subst hM
          exact zw_out K hE htab ⟨Nat.le_of_ble_eq_true rfl, Nat.le_of_ble_eq_true rfl⟩ (zPx.mk 2 (c := 3) (by unfold zop_bid; rw [if_neg (by simp [h1]), if_neg (by rw [h2, show zmo x = true from h3]; decide), zx_n (by have := hI.n; omega), zx_n (by omega : k < 2 ^ 31), if_pos (by rw [show (zv σ 0 j == 0) = false by simpa [zopen_b, zb_0] using c31, Bool.false_and])]) (by decide) rfl hW)
        · refine zw_aload (v := .ref (ad 10 j 0)) (pc' := 36) K dX1_bid_34 rfl rfl rfl ?_
          refine zg_X1_95 (v := .ref (ad 11 j 0)) (pc' := 39) K (hW.c10 hj) rfl dX1_bid_36 rfl ?_
          refine zw_iload_n (x := (nI k)) (pc' := 40) K dX1_bid_39 rfl rfl ?_
          by_cases hs : zv σ 4 (7 * j + k) = 0
          · have h59 : zv σ 5 (7 * j + k) = 0 := by rcases hI.gs (7 * j + k) with y | ⟨-, y⟩; exact y; rw [hs] at y; exact absurd y (by decide)
            refine zn_aaldB (j := k) (v := none) (pc' := 41) K (hW.c11 hj) rfl hk ((if_pos hk).trans (if_pos hs)) dX1_bid_40 rfl ?_
            refine zw_ifnonnull (r := none) (tgt := 48) (pc' := 44) K dX1_bid_41 (by decide) rfl (fun _ h => nomatch h) (fun _ => ?_)
            refine zw_iconst (v := 1) (pc' := 45) K dX1_bid_44 (by decide) rfl ?_
            refine zw_goto (tgt := 49) K dX1_bid_45 (by decide) ?_
            refine zc_X1_75 (rest := []) (c' := 4) (n' := 24) (pc' := 52) K (ct_X1_must hl M true) rfl rfl dX1_bid_49 rfl (Nat.le_of_ble_eq_true rfl) ⟨Nat.le_of_ble_eq_true rfl, Nat.le_of_ble_eq_true rfl⟩ ⟨Nat.le_of_ble_eq_true rfl, Nat.le_of_ble_eq_true rfl, Nat.le_of_ble_eq_true rfl, Nat.le_of_ble_eq_true rfl⟩ (zw_kv fun M1 h => ?_) (fun E M1 h => absurd h.2.1 (by decide))
            obtain ⟨-, hM⟩ := h
            have hM := hM.symm
            subst hM
            refine zw_aload (v := .ref (ad 10 j 0)) (pc' := 54) K dX1_bid_52 rfl rfl rfl ?_
            refine zg_X1_95 (v := .ref (ad 11 j 0)) (pc' := 57) K (hW.c10 hj) rfl dX1_bid_54 rfl ?_
            refine zw_iload_n (x := (nI k)) (pc' := 58) K dX1_bid_57 rfl rfl ?_
            refine zw_new (c' := 5) (n' := 26) (pc' := 61) (fs := [.int 0, .int 0]) K in_X4 (ci := 2) rfl tyX4 tyX4_ok q425 q426 q42 (by decide +kernel) ⟨Nat.le_of_ble_eq_true rfl, Nat.le_of_ble_eq_true rfl, Nat.le_of_ble_eq_true rfl, Nat.le_of_ble_eq_true rfl⟩ dX1_bid_58 rfl (fun q hq => ?_)
            refine zw_nmM (fun M1 eM1 => ?_)
            have f2 : M1 (ad 0 0 0) = some (zw_eC 0 [.ref (ad 1 0 0), .ref (ad 2 0 0), .ref (ad 3 0 0), .int (zv σ 6 0)]) := by rw [eM1]; exact zw_un' (zw_nn hW.c0 hq) hW.c0
            have f3 : M1 (ad 1 0 0) = some (zw_eL (zn σ) (fun t => ad 10 t 0)) := by rw [eM1]; exact zw_un' (zw_nn hW.c1 hq) hW.c1
            have f4 : M1 (ad 2 0 0) = some (zw_eL (zg σ) (fun f => ad 20 f 0)) := by rw [eM1]; exact zw_un' (zw_nn hW.c2 hq) hW.c2
            have f5 : M1 (ad 3 0 0) = some (zw_eI (zw_Xw X) 7 (zv σ 13)) := by rw [eM1]; exact zw_un' (zw_nn hW.c3 hq) hW.c3
            have f6 : M1 (ad 10 j 0) = some (zw_eC 1 [.ref (ad 11 j 0), .int (if zv σ 0 j = 0 then 1 else 0), .int (if zv σ 0 j = 1 then zv σ 1 j else -1), .int (zv σ 2 j), .int (zv σ 3 j)]) := by rw [eM1]; exact zw_un' (zw_nn (hW.c10 hj) hq) (hW.c10 hj)
            have f7 : M1 (ad 11 j 0) = some (zw_eB (zw_Xw X) 7 (fun b => if b < 7 then (if zv σ 4 (7 * j + b) = 0 then none else some (ad 12 j b)) else none)) := by rw [eM1]; exact zw_un' (zw_nn (hW.c11 hj) hq) (hW.c11 hj)
            have f8 : M1 q = some (zw_eC 2 [.int 0, .int 0]) := by rw [eM1]; exact zw_us
            refine zw_dup (pc' := 62) K dX1_bid_61 rfl rfl ?_
            refine zw_iload_n (x := x) (pc' := 63) K dX1_bid_62 rfl rfl ?_
            refine zc_X1_101 (rest := [.ref q, .int (nI k), .ref (ad 11 j 0)]) (c' := 5) (n' := 26) (pc' := 66) K (ct_X4_init hl M1 q x f8) rfl rfl dX1_bid_63 rfl (Nat.le_of_ble_eq_true rfl) ⟨Nat.le_of_ble_eq_true rfl, Nat.le_of_ble_eq_true rfl⟩ ⟨Nat.le_of_ble_eq_true rfl, Nat.le_of_ble_eq_true rfl, Nat.le_of_ble_eq_true rfl, Nat.le_of_ble_eq_true rfl⟩ (zw_kv fun M1 h => ?_) zw_kn
            have g11 : M1 (ad 11 j 0) = some (zw_eB (zw_Xw X) 7 (fun b => if b < 7 then (if zv σ 4 (7 * j + b) = 0 then none else some (ad 12 j b)) else none)) := by rw [show M1 = _ from h]; exact zw_un' (zw_nn (hW.c11 hj) hq) f7
            have gq : M1 q = some (zw_eC 2 [.int x, .int 0]) := by rw [show M1 = _ from h]; exact zw_us
            refine zn_aastB (j := k) (pc' := 67) K g11 rfl hk gq dX1_bid_66 rfl ?_
            refine zw_nmM (fun M29 eM29 => ?_)
            have f30 : M29 (ad 11 j 0) = some (zw_eB (zw_Xw X) 7 (va_up (fun b => if b < 7 then (if zv σ 4 (7 * j + b) = 0 then none else some (ad 12 j b)) else none) k (some q))) := by rw [eM29]; exact zw_us
            have f31 : M29 q = some (zw_eC 2 [.int x, .int 0]) := by rw [eM29]; exact zw_un' (zw_ne gq g11 (by simp)) gq
            have hx0 : ¬ x = 0 := by intro z; rw [z] at h3; exact absurd h3 (by decide)
            have hW1 : zW (zw_Xw X) M29 (zad ad 12 j k q) (zset σ 4 (7 * j + k) x) μ th o := hW.bid hj hk hs hx0 h59 hq (by rw [eM29, show M1 = _ from h, eM1, zw_uu])
            have hZ : zt_T (zw_Xw X) M29 (ad 10 j 0) _ _ _ _ (fun b => zv (zset σ 4 (7 * j + k) x) 4 (7 * j + b)) (fun b => zv (zset σ 4 (7 * j + k) x) 5 (7 * j + b)) := hW1.tender (fun i => by rw [zset_v]; by_cases z : 4 = 4 ∧ i = 7 * j + k; rw [if_pos z]; simp only [zrg, Bool.and_eq_true, decide_eq_true_eq] at h3; exact Int32.le_trans (by decide) h3.1; rw [if_neg z]; exact hI.sm i) hj
            obtain ⟨bs9, f9, hT9, -, -⟩ := id hZ
            refine zw_iconst (v := 0) (pc' := 68) K dX1_bid_67 (by decide) rfl ?_
            refine zw_istore (lv' := [some (.ref (ad 0 0 0)), some (.int (nI j)), some (.int (nI k)), some (.int x), some (.ref (ad 10 j 0)), some (.int 0), none]) (pc' := 70) K dX1_bid_68 (by decide) rfl rfl ?_
            refine zw_iconst (v := 0) (pc' := 71) K dX1_bid_70 (by decide) rfl ?_
            refine zw_istore (lv' := [some (.ref (ad 0 0 0)), some (.int (nI j)), some (.int (nI k)), some (.int x), some (.ref (ad 10 j 0)), some (.int 0), some (.int 0)]) (pc' := 73) K dX1_bid_71 (by decide) rfl rfl ?_
            have L73 : ∀ i : Nat, i ≤ 7 → ∀ (xi : Int32) (acc : Int32), xi = nI i → (acc = zf (zcountF (zset σ 4 (7 * j + k) x) j) i 0) → zw_Z X M29 5 26 73 [some (.ref (ad 0 0 0)), some (.int (nI j)), some (.int (nI k)), some (.int x), some (.ref (ad 10 j 0)), some (.int acc), some (.int xi)] [] := by
              refine zl_up (fun i hi73 ih73 => ?_)
              intro xi acc hxi hacc
              refine zw_iload (x := xi) (pc' := 75) K dX1_bid_73 rfl rfl ?_
              refine zw_bipush (v := 7) (pc' := 77) K dX1_bid_75 (by decide) rfl ?_
              refine zw_icmp_ge (tgt := 106) (pc' := 80) K dX1_bid_77 (by decide) rfl (fun c77 => ?_) (fun c77 => ?_)
              · have hend73 : i = 7 := zi_ge hxi (by decide) hi73 (by decide) c77
                refine zw_iload (x := acc) (pc' := 108) K dX1_bid_106 rfl rfl ?_
                exact zw_iret K hE dX1_bid_108 ⟨Nat.le_of_ble_eq_true rfl, Nat.le_of_ble_eq_true rfl⟩ (zPo.mk (σ' := zset σ 4 (7 * j + k) x) (by unfold zop_bid; rw [if_neg (by simp [h1]), if_neg (by rw [h2, show zmo x = true from h3]; decide), zx_n (by have := hI.n; omega), zx_n (by omega : k < 2 ^ 31), if_neg (by rw [show (zv σ 0 j == 0) = true by simpa [zopen_b, zb_0] using c31, hs]; decide)]; rw [hacc, hend73]; rfl) ⟨zad ad 12 j k q, rfl, rfl, rfl, hW1⟩)
              · have hlt73 : i < 7 := zi_lt hxi (by decide) hi73 (by decide) c77
                refine zw_iload (x := acc) (pc' := 82) K dX1_bid_80 rfl rfl ?_
                refine zw_aload (v := .ref (ad 10 j 0)) (pc' := 84) K dX1_bid_82 rfl rfl rfl ?_
                refine zw_iload (x := xi) (pc' := 86) K dX1_bid_84 rfl rfl ?_
                subst hxi
                refine zc_X1_104 (rest := [.int acc]) (c' := 5) (n' := 26) (pc' := 89) K (ct_X3_stands hl M29 (ad 10 j 0) hZ i hlt73) hT9 rfl rfl dX1_bid_86 rfl (Nat.le_of_ble_eq_true rfl) ⟨Nat.le_of_ble_eq_true rfl, Nat.le_of_ble_eq_true rfl⟩ ⟨Nat.le_of_ble_eq_true rfl, Nat.le_of_ble_eq_true rfl, Nat.le_of_ble_eq_true rfl, Nat.le_of_ble_eq_true rfl⟩ (zw_kp ?_) zw_kn
                refine zw_if_eq (tgt := 96) (pc' := 92) K dX1_bid_89 (by decide) rfl (fun c89 => ?_) (fun c89 => ?_)
                · have c89 := zb_0.mp c89
                  refine zw_iconst (v := 0) (pc' := 97) K dX1_bid_96 (by decide) rfl ?_
                  refine zw_iadd (pc' := 98) K dX1_bid_97 rfl ?_
                  refine zw_istore (lv' := [some (.ref (ad 0 0 0)), some (.int (nI j)), some (.int (nI k)), some (.int x), some (.ref (ad 10 j 0)), some (.int (acc + 0)), some (.int (nI i))]) (pc' := 100) K dX1_bid_98 (by decide) rfl rfl ?_
                  refine zw_iinc (x := (nI i)) (lv' := [some (.ref (ad 0 0 0)), some (.int (nI j)), some (.int (nI k)), some (.int x), some (.ref (ad 10 j 0)), some (.int (acc + 0)), some (.int ((nI i) + 1))]) (pc' := 103) K dX1_bid_100 rfl (by decide) rfl rfl ?_
                  refine zw_goto (tgt := 73) K dX1_bid_103 (by decide) ?_
                  exact ih73 hlt73 ((nI i) + 1) (acc + 0) (nI_1 i) (by rw [zf_s, ← hacc]; unfold zcountF; rw [show zst (zset σ 4 (7 * j + k) x) j i = false from c89]; rfl)
                · have c89 := zb_nz.mp c89
                  refine zw_iconst (v := 1) (pc' := 93) K dX1_bid_92 (by decide) rfl ?_
                  refine zw_goto (tgt := 97) K dX1_bid_93 (by decide) ?_
                  refine zw_iadd (pc' := 98) K dX1_bid_97 rfl ?_
                  refine zw_istore (lv' := [some (.ref (ad 0 0 0)), some (.int (nI j)), some (.int (nI k)), some (.int x), some (.ref (ad 10 j 0)), some (.int (acc + 1)), some (.int (nI i))]) (pc' := 100) K dX1_bid_98 (by decide) rfl rfl ?_
                  refine zw_iinc (x := (nI i)) (lv' := [some (.ref (ad 0 0 0)), some (.int (nI j)), some (.int (nI k)), some (.int x), some (.ref (ad 10 j 0)), some (.int (acc + 1)), some (.int ((nI i) + 1))]) (pc' := 103) K dX1_bid_100 rfl (by decide) rfl rfl ?_
                  refine zw_goto (tgt := 73) K dX1_bid_103 (by decide) ?_
                  exact ih73 hlt73 ((nI i) + 1) (acc + 1) (nI_1 i) (by rw [zf_s, ← hacc]; unfold zcountF; rw [show zst (zset σ 4 (7 * j + k) x) j i = true from c89]; rfl)
            exact L73 0 (Nat.zero_le _) 0 0 rfl rfl
          · have hpos : 0 < zv σ 4 (7 * j + k) := by rcases Int32.lt_or_eq_of_le (hI.sm (7 * j + k)) with y | y; exact y; exact absurd y.symm hs
            refine zn_aaldB (j := k) (v := (some (ad 12 j k))) (pc' := 41) K (hW.c11 hj) rfl hk ((if_pos hk).trans (if_neg hs)) dX1_bid_40 rfl ?_
            refine zw_ifnonnull (r := some (ad 12 j k)) (tgt := 48) (pc' := 44) K dX1_bid_41 (by decide) rfl (fun _ _ => ?_) (fun h => nomatch h)
            refine zw_iconst (v := 0) (pc' := 49) K dX1_bid_48 (by decide) rfl ?_
            refine zc_X1_75 (rest := []) (c' := 4) (n' := 24) (pc' := 52) K (ct_X1_must hl M false) rfl rfl dX1_bid_49 rfl (Nat.le_of_ble_eq_true rfl) ⟨Nat.le_of_ble_eq_true rfl, Nat.le_of_ble_eq_true rfl⟩ ⟨Nat.le_of_ble_eq_true rfl, Nat.le_of_ble_eq_true rfl, Nat.le_of_ble_eq_true rfl, Nat.le_of_ble_eq_true rfl⟩ (zw_kv fun M1 h => absurd h.1 (by decide)) (fun E M1 h => ?_)
            obtain ⟨h0, -, hM⟩ := h
            have hM := hM.symm
            subst h0; subst hM
            exact zw_out K hE htab ⟨Nat.le_of_ble_eq_true rfl, Nat.le_of_ble_eq_true rfl⟩ (zPx.mk 2 (c := 3) (by unfold zop_bid; rw [if_neg (by simp [h1]), if_neg (by rw [h2, show zmo x = true from h3]; decide), zx_n (by have := hI.n; omega), zx_n (by omega : k < 2 ^ 31), if_pos (by rw [show decide (zv σ 4 (7 * j + k) ≤ 0) = false by simpa using hpos, Bool.and_false])]) (by decide) rfl hW)
      · obtain ⟨h0, h3, hM⟩ := h
        have hM := hM.symm
        subst h0; subst hM
        exact zw_out K hE htab ⟨Nat.le_of_ble_eq_true rfl, Nat.le_of_ble_eq_true rfl⟩ (zPx.mk 1 (c := 2) (by unfold zop_bid; rw [if_neg (by simp [h1]), if_pos (by rw [show zmo x = false from h3, Bool.and_false])]) (by decide) rfl hW)
    · obtain ⟨h0, h2, hM⟩ := h
      have hM := hM.symm
      subst h0; subst hM
      exact zw_out K hE htab ⟨Nat.le_of_ble_eq_true rfl, Nat.le_of_ble_eq_true rfl⟩ (zPx.mk 1 (c := 2) (by simp [zop_bid, h1, h2]) (by decide) rfl hW)
  · obtain ⟨h0, h1, hM⟩ := h
    have hM := hM.symm
    subst h0; subst hM
    exact zw_out K hE htab ⟨Nat.le_of_ble_eq_true rfl, Nat.le_of_ble_eq_true rfl⟩ (zPx.mk 0 (c := 1) (by simp [zop_bid, h1]) (by decide) rfl hW)
