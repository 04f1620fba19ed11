/-! CartelWatchModel: the calls of the law, second part -/
set_option maxRecDepth 100000
theorem zsign_congr {μ μ' : zS} (h : ∀ v i, v < 6 → zv μ' v i = zv μ v i) (t : Nat) (a b : Int32) : zsign μ' t a b = zsign μ t a b := by
  have h0 := fun i => h 0 i (by decide)
  have h1 := fun i => h 1 i (by decide)
  have h2 := fun i => h 2 i (by decide)
  have h4 := fun i => h 4 i (by decide)
  have h5 := fun i => h 5 i (by decide)
  have es : ∀ i j, zst μ' i j = zst μ i j := fun i j => by simp only [zst, h4, h5]
  have ep : ∀ i, zprice μ' i = zprice μ i := fun i => by simp only [zprice, h1, h4]
  have el : ∀ i j k, zlast μ' i j k = zlast μ i j k := fun i j k => by
    unfold zlast
    refine zf_congr (fun q _ z => ?_)
    simp only [zlastF, h0, es]
  have eq : ∀ i j k c, ztq μ' i j k c = ztq μ i j k c := fun i j k c => by simp only [ztq, el, h1]
  simp only [zsign, zsig, h0, h1, h2, h4, h5, es, ep, eq]
theorem zturn_congr {μ μ' : zS} (hn : zn μ' = zn μ) (h : ∀ v i, v < 6 → zv μ' v i = zv μ v i) (b : Int32) : zturn μ' b = zturn μ b := by
  have h0 := fun i => h 0 i (by decide)
  have h1 := fun i => h 1 i (by decide)
  have h2 := fun i => h 2 i (by decide)
  have h3 := fun i => h 3 i (by decide)
  have h4 := fun i => h 4 i (by decide)
  unfold zturn
  rw [hn]
  refine zf_congr (fun q _ z => ?_)
  simp only [zturnF, zprice, h0, h1, h2, h3, h4]
theorem zsusp_congr {μ μ' : zS} (hn : zn μ' = zn μ) (h : ∀ v i, v < 6 → zv μ' v i = zv μ v i) (a b : Int32) : zsusp μ' a b = zsusp μ a b := by
  unfold zsusp
  rw [hn]
  refine zf_congr (fun q _ z => ?_)
  simp only [zsuspF, zsign_congr h]
theorem zcl2_a {μ : zS} {j : Nat} : zv (zcl2 μ j) 11 (2 * j) = zv (zcl1 μ j) 11 (2 * j) := by
  unfold zcl2
  rw [zset_v, if_neg (by omega)]
  unfold zpay
  rw [zset_v, if_neg (by omega)]
theorem zcl2_b {μ : zS} {j : Nat} : zv (zcl2 μ j) 11 (2 * j + 1) = zdue (zcl1 μ j) j (zv μ 8 j) (zv μ 10 (2 * j + 1)) := by
  unfold zcl2
  rw [zset_v, if_pos ⟨rfl, rfl⟩]
theorem zhad_pair {x y : Int32} (h : y ≤ x) (hne : ¬ x = y) : zs_min x y = y ∧ zs_max x y = x := by
  have h1 : y < x := Int32.lt_of_le_of_ne h (fun q => hne q.symm)
  exact ⟨if_pos h1, if_neg (fun q => absurd h (Int32.not_le.mpr q))⟩
theorem zhad_pair2 {x y : Int32} (h : ¬ y ≤ x) : zs_min x y = x ∧ zs_max x y = y := by
  have h1 : x < y := Int32.not_le.mp h
  exact ⟨if_neg (fun q => h (Int32.le_of_lt q)), if_pos h1⟩
set_option maxHeartbeats 2000000 in
theorem ct_X2_count {w : zw_W} {l : Launch} (hl : l.stackTraces = false) (M : zw_M) (L : List Nat) (hn : L.Nodup) (h30 : ∀ t ∈ L, t < 30) : zw_C w l yX2_count cX2_count 3 (Option.some Jvm.ClassFile.FieldType.int) (zr 1 0 0) [.int (zbits L)] M (zw_pi fun r M1 => r = nI L.length ∧ M1 = M) zw_no := by
  refine zw_enter RX2 rfl (by decide) hl (by simp [Value.category]) (Nat.le_of_ble_eq_true rfl) (fun X hXl hXw K hE htab hcon => ?_)
  subst hXl; subst hXw
  show zw_Z X _ 0 0 0 [some (.int (zbits L)), none, none] []
  refine zw_iconst (v := 0) (pc' := 1) K dX2_count_0 (by decide) rfl ?_
  refine zw_istore_n (lv' := [some (.int (zbits L)), some (.int 0), none]) (pc' := 2) K dX2_count_1 (by decide) rfl rfl ?_
  refine zw_iconst (v := 0) (pc' := 3) K dX2_count_2 (by decide) rfl ?_
  refine zw_istore_n (lv' := [some (.int (zbits L)), some (.int 0), some (.int 0)]) (pc' := 4) K dX2_count_3 (by decide) rfl rfl ?_
  have L4 : ∀ i : Nat, i ≤ 30 → ∀ (xi : Int32) (acc : Int32), xi = nI i → (acc = zf (zcntF (zbits L)) i 0) → zw_Z X M 0 0 4 [some (.int (zbits L)), some (.int acc), some (.int xi)] [] := by
    refine zl_up (fun i hi4 ih4 => ?_)
    intro xi acc hxi hacc
    refine zw_iload_n (x := xi) (pc' := 5) K dX2_count_4 rfl rfl ?_
    refine zw_bipush (v := 30) (pc' := 7) K dX2_count_5 (by decide) rfl ?_
    refine zw_icmp_ge (tgt := 24) (pc' := 10) K dX2_count_7 (by decide) rfl (fun c7 => ?_) (fun c7 => ?_)
    · have hend4 : i = 30 := zi_ge hxi (by decide) hi4 (by decide) c7
      refine zw_iload_n (x := acc) (pc' := 25) K dX2_count_24 rfl rfl ?_
      exact zw_iret K hE dX2_count_25 ⟨Nat.le_of_ble_eq_true rfl, Nat.le_of_ble_eq_true rfl⟩ (⟨by rw [hacc, hend4]; exact zcnt_all hn h30, rfl⟩)
    · have hlt4 : i < 30 := zi_lt hxi (by decide) hi4 (by decide) c7
      subst hxi
      refine zw_iload_n (x := acc) (pc' := 11) K dX2_count_10 rfl rfl ?_
      refine zw_iload_n (x := zbits L) (pc' := 12) K dX2_count_11 rfl rfl ?_
      refine zw_iload_n (x := (nI i)) (pc' := 13) K dX2_count_12 rfl rfl ?_
      refine zw_ishr (pc' := 14) K dX2_count_13 rfl ?_
      refine zw_iconst (v := 1) (pc' := 15) K dX2_count_14 (by decide) rfl ?_
      refine zw_iand (pc' := 16) K dX2_count_15 rfl ?_
      refine zw_iadd (pc' := 17) K dX2_count_16 rfl ?_
      refine zw_istore_n (lv' := [some (.int (zbits L)), some (.int (acc + (((zbits L) >>> ((nI i) &&& 31)) &&& 1))), some (.int (nI i))]) (pc' := 18) K dX2_count_17 (by decide) rfl rfl ?_
      refine zw_iinc (x := (nI i)) (lv' := [some (.int (zbits L)), some (.int (acc + (((zbits L) >>> ((nI i) &&& 31)) &&& 1))), some (.int ((nI i) + 1))]) (pc' := 21) K dX2_count_18 rfl (by decide) rfl rfl ?_
      refine zw_goto (tgt := 4) K dX2_count_21 (by decide) ?_
      exact ih4 hlt4 ((nI i) + 1) (acc + (((zbits L) >>> ((nI i) &&& 31)) &&& 1)) (nI_1 i) (by rw [zf_s, ← hacc]; rfl)
  exact L4 0 (Nat.zero_le _) 0 0 rfl rfl
set_option maxHeartbeats 2000000 in
theorem ct_X2_matters {w : zw_W} {l : Launch} (hl : l.stackTraces = false) {M : zw_M} {ad : Nat → Nat → Nat → Nat} {σ μ : zS} {th : Int32} {o : Int64} (hW : zW w M ad σ μ th o) (hI : zI μ) (f : Int32) : zw_C w l yX2_matters cX2_matters 2 (Option.some Jvm.ClassFile.FieldType.int) (zr 3 0 0) [.ref (ad 100 0 0), .int f] M (zw_pi fun r M1 => r = (zop_matters μ f).1 ∧ zW w M1 ad σ (zop_matters μ f).2.2 (zop_matters μ f).2.1 o) zw_no := by
  refine zw_enter RX2 rfl (by decide) hl (by simp [Value.category]) (Nat.le_of_ble_eq_true rfl) (fun X hXl hXw K hE htab hcon => ?_)
  subst hXl; subst hXw
  show zw_Z X _ 0 0 0 [some (.ref (ad 100 0 0)), some (.int f)] []
  refine zw_aload_n (v := .ref (ad 100 0 0)) (pc' := 1) K dX2_matters_0 rfl rfl rfl ?_
  refine zw_iconst (v := 0) (pc' := 2) K dX2_matters_1 (by decide) rfl ?_
  refine zp_X2_60 (v := .int 0) (pc' := 5) K hW.mo rfl rfl (by simp [zmob]) dX2_matters_2 rfl ?_
  refine zw_nmM (fun M1 eM1 => ?_)
  have hW2 : zW (zw_Xw X) M1 ad σ μ 0 o := by rw [eM1]; exact hW.pth
  refine zw_aload_n (v := .ref (ad 100 0 0)) (pc' := 6) K dX2_matters_5 rfl rfl rfl ?_
  refine zw_iload_n (x := f) (pc' := 7) K dX2_matters_6 rfl rfl ?_
  refine zc_X2_112 (rest := []) (c' := 0) (n' := 0) (pc' := 10) K (ct_X2_isFile hl hW2 f (by have := hI.g; omega)) hW2.mo rfl rfl dX2_matters_7 rfl (Nat.le_of_ble_eq_true rfl) ⟨Nat.le_of_ble_eq_true rfl, Nat.le_of_ble_eq_true rfl⟩ ⟨Nat.le_of_ble_eq_true rfl, Nat.le_of_ble_eq_true rfl, Nat.le_of_ble_eq_true rfl, Nat.le_of_ble_eq_true rfl⟩ (zw_kp ?_) zw_kn
  refine zw_if_eq (tgt := 25) (pc' := 13) K dX2_matters_10 (by decide) rfl (fun c10 => ?_) (fun c10 => ?_)
  · have c10 := zb_0.mp c10
    refine zw_aload_n (v := .ref (ad 100 0 0)) (pc' := 26) K dX2_matters_25 rfl rfl rfl ?_
    refine zw_iconst (v := 1) (pc' := 27) K dX2_matters_26 (by decide) rfl ?_
    refine zc_X2_77 (rest := []) (c' := 0) (n' := 0) (pc' := 30) K (ct_X2_fails hl hW2 1) hW2.mo rfl rfl dX2_matters_27 rfl (Nat.le_of_ble_eq_true rfl) ⟨Nat.le_of_ble_eq_true rfl, Nat.le_of_ble_eq_true rfl⟩ ⟨Nat.le_of_ble_eq_true rfl, Nat.le_of_ble_eq_true rfl, Nat.le_of_ble_eq_true rfl, Nat.le_of_ble_eq_true rfl⟩ (zw_ki fun r M1 h => ?_) zw_kn
    obtain ⟨rfl, hW3⟩ := h
    exact zw_iret K hE dX2_matters_30 ⟨Nat.le_of_ble_eq_true rfl, Nat.le_of_ble_eq_true rfl⟩ (by rw [show zop_matters μ f = (0, 1, μ) from by simp [zop_matters, c10]]; exact ⟨rfl, hW3⟩)
  · have c10 := zb_nz.mp c10
    obtain ⟨j, hj, rfl⟩ := zin_of c10 (by have := hI.n; have := hI.g; omega)
    have xe_j : zx (nI j) = j := zx_n (by have := hI.n; have := hI.g; omega)
    refine zw_aload_n (v := .ref (ad 100 0 0)) (pc' := 14) K dX2_matters_13 rfl rfl rfl ?_
    refine zg_X2_39 (v := .ref (ad 115 0 0)) (pc' := 17) K hW2.mo rfl dX2_matters_14 rfl ?_
    refine zw_iload_n (x := (nI j)) (pc' := 18) K dX2_matters_17 rfl rfl ?_
    refine zn_iald (j := j) (v := (zbits (zmt μ j))) (pc' := 19) K hW2.m14 rfl (by have := hI.n; have := hI.g; omega) rfl dX2_matters_18 rfl ?_
    refine zc_X2_115 (rest := []) (c' := 0) (n' := 0) (pc' := 22) K (ct_X2_count hl M1 (zmt μ j) (hI.ls hj).1 (fun t ht => by have := hI.n; have := (hI.ls hj).2.1 t ht; omega)) rfl rfl dX2_matters_19 rfl (Nat.le_of_ble_eq_true rfl) ⟨Nat.le_of_ble_eq_true rfl, Nat.le_of_ble_eq_true rfl⟩ ⟨Nat.le_of_ble_eq_true rfl, Nat.le_of_ble_eq_true rfl, Nat.le_of_ble_eq_true rfl, Nat.le_of_ble_eq_true rfl⟩ (zw_kp ?_) zw_kn
    refine zw_goto (tgt := 30) K dX2_matters_22 (by decide) ?_
    exact zw_iret K hE dX2_matters_30 ⟨Nat.le_of_ble_eq_true rfl, Nat.le_of_ble_eq_true rfl⟩ (by rw [show zop_matters μ (nI j) = (nI (zmt μ j).length, 0, μ) from by simp [zop_matters, xe_j, c10]]; exact ⟨rfl, hW2⟩)
set_option maxHeartbeats 2000000 in
theorem ct_X2_firstTeller {w : zw_W} {l : Launch} (hl : l.stackTraces = false) {M : zw_M} {ad : Nat → Nat → Nat → Nat} {σ μ : zS} {th : Int32} {o : Int64} (hW : zW w M ad σ μ th o) (hI : zI μ) (f : Int32) : zw_C w l yX2_firstTeller cX2_firstTeller 2 (Option.some Jvm.ClassFile.FieldType.int) (zr 3 0 0) [.ref (ad 100 0 0), .int f] M (zw_pi fun r M1 => r = (zop_firstTeller μ f).1 ∧ zW w M1 ad σ (zop_firstTeller μ f).2.2 (zop_firstTeller μ f).2.1 o) zw_no := by
  refine zw_enter RX2 rfl (by decide) hl (by simp [Value.category]) (Nat.le_of_ble_eq_true rfl) (fun X hXl hXw K hE htab hcon => ?_)
  subst hXl; subst hXw
  show zw_Z X _ 0 0 0 [some (.ref (ad 100 0 0)), some (.int f)] []
  refine zw_aload_n (v := .ref (ad 100 0 0)) (pc' := 1) K dX2_firstTeller_0 rfl rfl rfl ?_
  refine zw_iconst (v := 0) (pc' := 2) K dX2_firstTeller_1 (by decide) rfl ?_
  refine zp_X2_60 (v := .int 0) (pc' := 5) K hW.mo rfl rfl (by simp [zmob]) dX2_firstTeller_2 rfl ?_
  refine zw_nmM (fun M1 eM1 => ?_)
  have hW2 : zW (zw_Xw X) M1 ad σ μ 0 o := by rw [eM1]; exact hW.pth
  refine zw_aload_n (v := .ref (ad 100 0 0)) (pc' := 6) K dX2_firstTeller_5 rfl rfl rfl ?_
  refine zw_iload_n (x := f) (pc' := 7) K dX2_firstTeller_6 rfl rfl ?_
  refine zc_X2_112 (rest := []) (c' := 0) (n' := 0) (pc' := 10) K (ct_X2_isFile hl hW2 f (by have := hI.g; omega)) hW2.mo rfl rfl dX2_firstTeller_7 rfl (Nat.le_of_ble_eq_true rfl) ⟨Nat.le_of_ble_eq_true rfl, Nat.le_of_ble_eq_true rfl⟩ ⟨Nat.le_of_ble_eq_true rfl, Nat.le_of_ble_eq_true rfl, Nat.le_of_ble_eq_true rfl, Nat.le_of_ble_eq_true rfl⟩ (zw_kp ?_) zw_kn
  refine zw_if_eq (tgt := 22) (pc' := 13) K dX2_firstTeller_10 (by decide) rfl (fun c10 => ?_) (fun c10 => ?_)
  · have c10 := zb_0.mp c10
    refine zw_aload_n (v := .ref (ad 100 0 0)) (pc' := 23) K dX2_firstTeller_22 rfl rfl rfl ?_
    refine zw_iconst (v := 1) (pc' := 24) K dX2_firstTeller_23 (by decide) rfl ?_
    refine zc_X2_77 (rest := []) (c' := 0) (n' := 0) (pc' := 27) K (ct_X2_fails hl hW2 1) hW2.mo rfl rfl dX2_firstTeller_24 rfl (Nat.le_of_ble_eq_true rfl) ⟨Nat.le_of_ble_eq_true rfl, Nat.le_of_ble_eq_true rfl⟩ ⟨Nat.le_of_ble_eq_true rfl, Nat.le_of_ble_eq_true rfl, Nat.le_of_ble_eq_true rfl, Nat.le_of_ble_eq_true rfl⟩ (zw_ki fun r M1 h => ?_) zw_kn
    obtain ⟨rfl, hW3⟩ := h
    exact zw_iret K hE dX2_firstTeller_27 ⟨Nat.le_of_ble_eq_true rfl, Nat.le_of_ble_eq_true rfl⟩ (by rw [show zop_firstTeller μ f = (0, 1, μ) from by simp [zop_firstTeller, c10]]; exact ⟨rfl, hW3⟩)
  · have c10 := zb_nz.mp c10
    obtain ⟨j, hj, rfl⟩ := zin_of c10 (by have := hI.n; have := hI.g; omega)
    have xe_j : zx (nI j) = j := zx_n (by have := hI.n; have := hI.g; omega)
    refine zw_aload_n (v := .ref (ad 100 0 0)) (pc' := 14) K dX2_firstTeller_13 rfl rfl rfl ?_
    refine zg_X2_45 (v := .ref (ad 110 0 0)) (pc' := 17) K hW2.mo rfl dX2_firstTeller_14 rfl ?_
    refine zw_iload_n (x := (nI j)) (pc' := 18) K dX2_firstTeller_17 rfl rfl ?_
    refine zn_iald (j := j) (v := ((zv μ 9) j)) (pc' := 19) K hW2.m9 rfl (by have := hI.n; have := hI.g; omega) rfl dX2_firstTeller_18 rfl ?_
    refine zw_goto (tgt := 27) K dX2_firstTeller_19 (by decide) ?_
    exact zw_iret K hE dX2_firstTeller_27 ⟨Nat.le_of_ble_eq_true rfl, Nat.le_of_ble_eq_true rfl⟩ (by rw [show zop_firstTeller μ (nI j) = ((zv μ 9) j, 0, μ) from by simp [zop_firstTeller, xe_j, c10]]; exact ⟨rfl, hW2⟩)
set_option maxHeartbeats 2000000 in
theorem ct_X2_fine {w : zw_W} {l : Launch} (hl : l.stackTraces = false) {M : zw_M} {ad : Nat → Nat → Nat → Nat} {σ μ : zS} {th : Int32} {o : Int64} (hW : zW w M ad σ μ th o) (hI : zI μ) (f b : Int32) : zw_C w l yX2_fine cX2_fine 3 (Option.some Jvm.ClassFile.FieldType.int) (zr 3 0 0) [.ref (ad 100 0 0), .int f, .int b] M (zw_pi fun r M1 => r = (zop_fine μ f b).1 ∧ zW w M1 ad σ (zop_fine μ f b).2.2 (zop_fine μ f b).2.1 o) zw_no := by
  refine zw_enter RX2 rfl (by decide) hl (by simp [Value.category]) (Nat.le_of_ble_eq_true rfl) (fun X hXl hXw K hE htab hcon => ?_)
  subst hXl; subst hXw
  show zw_Z X _ 0 0 0 [some (.ref (ad 100 0 0)), some (.int f), some (.int b)] []
  refine zw_aload_n (v := .ref (ad 100 0 0)) (pc' := 1) K dX2_fine_0 rfl rfl rfl ?_
  refine zw_iconst (v := 0) (pc' := 2) K dX2_fine_1 (by decide) rfl ?_
  refine zp_X2_60 (v := .int 0) (pc' := 5) K hW.mo rfl rfl (by simp [zmob]) dX2_fine_2 rfl ?_
  refine zw_nmM (fun M1 eM1 => ?_)
  have hW2 : zW (zw_Xw X) M1 ad σ μ 0 o := by rw [eM1]; exact hW.pth
  refine zw_aload_n (v := .ref (ad 100 0 0)) (pc' := 6) K dX2_fine_5 rfl rfl rfl ?_
  refine zw_iload_n (x := f) (pc' := 7) K dX2_fine_6 rfl rfl ?_
  refine zc_X2_112 (rest := []) (c' := 0) (n' := 0) (pc' := 10) K (ct_X2_isFile hl hW2 f (by have := hI.g; omega)) hW2.mo rfl rfl dX2_fine_7 rfl (Nat.le_of_ble_eq_true rfl) ⟨Nat.le_of_ble_eq_true rfl, Nat.le_of_ble_eq_true rfl⟩ ⟨Nat.le_of_ble_eq_true rfl, Nat.le_of_ble_eq_true rfl, Nat.le_of_ble_eq_true rfl, Nat.le_of_ble_eq_true rfl⟩ (zw_kp ?_) zw_kn
  refine zw_if_ne (tgt := 19) (pc' := 13) K dX2_fine_10 (by decide) rfl (fun c10 => ?_) (fun c10 => ?_)
  · have c10 := zb_nz.mp c10
    obtain ⟨j, hj, rfl⟩ := zin_of c10 (by have := hI.n; have := hI.g; omega)
    have xe_j : zx (nI j) = j := zx_n (by have := hI.n; have := hI.g; omega)
    refine zw_aload_n (v := .ref (ad 100 0 0)) (pc' := 20) K dX2_fine_19 rfl rfl rfl ?_
    refine zw_iload_n (x := (nI j)) (pc' := 21) K dX2_fine_20 rfl rfl ?_
    refine zw_iload_n (x := b) (pc' := 22) K dX2_fine_21 rfl rfl ?_
    refine zc_X2_118 (rest := []) (c' := 0) (n' := 0) (pc' := 25) K (ct_X2_isOf hl hW2 j (by have := hI.n; have := hI.g; omega) b) hW2.mo rfl rfl dX2_fine_22 rfl (Nat.le_of_ble_eq_true rfl) ⟨Nat.le_of_ble_eq_true rfl, Nat.le_of_ble_eq_true rfl⟩ ⟨Nat.le_of_ble_eq_true rfl, Nat.le_of_ble_eq_true rfl, Nat.le_of_ble_eq_true rfl, Nat.le_of_ble_eq_true rfl⟩ (zw_kp ?_) zw_kn
    refine zw_if_eq (tgt := 55) (pc' := 28) K dX2_fine_25 (by decide) rfl (fun c25 => ?_) (fun c25 => ?_)
    · have c25 := zb_0.mp c25
      refine zw_aload_n (v := .ref (ad 100 0 0)) (pc' := 56) K dX2_fine_55 rfl rfl rfl ?_
      refine zw_iconst (v := 2) (pc' := 57) K dX2_fine_56 (by decide) rfl ?_
      refine zc_X2_77 (rest := []) (c' := 0) (n' := 0) (pc' := 60) K (ct_X2_fails hl hW2 2) hW2.mo rfl rfl dX2_fine_57 rfl (Nat.le_of_ble_eq_true rfl) ⟨Nat.le_of_ble_eq_true rfl, Nat.le_of_ble_eq_true rfl⟩ ⟨Nat.le_of_ble_eq_true rfl, Nat.le_of_ble_eq_true rfl, Nat.le_of_ble_eq_true rfl, Nat.le_of_ble_eq_true rfl⟩ (zw_ki fun r M1 h => ?_) zw_kn
      obtain ⟨rfl, hW3⟩ := h
      exact zw_iret K hE dX2_fine_60 ⟨Nat.le_of_ble_eq_true rfl, Nat.le_of_ble_eq_true rfl⟩ (by rw [show zop_fine μ (nI j) b = (0, 2, μ) from by simp [zop_fine, xe_j, c10, c25]]; exact ⟨rfl, hW3⟩)
    · have c25 := zb_nz.mp c25
      refine zw_aload_n (v := .ref (ad 100 0 0)) (pc' := 29) K dX2_fine_28 rfl rfl rfl ?_
      refine zg_X2_51 (v := .ref (ad 112 0 0)) (pc' := 32) K hW2.mo rfl dX2_fine_29 rfl ?_
      refine zw_iconst (v := 2) (pc' := 33) K dX2_fine_32 (by decide) rfl ?_
      refine zw_iload_n (x := (nI j)) (pc' := 34) K dX2_fine_33 rfl rfl ?_
      refine zw_imul (pc' := 35) K dX2_fine_34 rfl ?_
      refine zw_iload_n (x := b) (pc' := 36) K dX2_fine_35 rfl rfl ?_
      refine zw_aload_n (v := .ref (ad 100 0 0)) (pc' := 37) K dX2_fine_36 rfl rfl rfl ?_
      refine zg_X2_33 (v := .ref (ad 108 0 0)) (pc' := 40) K hW2.mo rfl dX2_fine_37 rfl ?_
      refine zw_iload_n (x := (nI j)) (pc' := 41) K dX2_fine_40 rfl rfl ?_
      refine zn_iald (j := j) (v := ((zv μ 7) j)) (pc' := 42) K hW2.m7 rfl (by have := hI.n; have := hI.g; omega) rfl dX2_fine_41 rfl ?_
      refine zw_icmp_ne (tgt := 49) (pc' := 45) K dX2_fine_42 (by decide) rfl (fun c42 => ?_) (fun c42 => ?_)
      · refine zw_iconst (v := 1) (pc' := 50) K dX2_fine_49 (by decide) rfl ?_
        refine zw_iadd (pc' := 51) K dX2_fine_50 rfl ?_
        refine zn_iald (j := 2 * j + 1) (v := ((zv μ 11) (2 * j + 1))) (pc' := 52) K hW2.m11 (zx_21 j) (by have := hI.n; have := hI.g; omega) rfl dX2_fine_51 rfl ?_
        refine zw_goto (tgt := 60) K dX2_fine_52 (by decide) ?_
        exact zw_iret K hE dX2_fine_60 ⟨Nat.le_of_ble_eq_true rfl, Nat.le_of_ble_eq_true rfl⟩ (by rw [show zop_fine μ (nI j) b = ((zv μ 11) (2 * j + 1), 0, μ) from by simp [zop_fine, xe_j, c10, c25]; rw [zside, if_neg c42]]; exact ⟨rfl, hW2⟩)
      · refine zw_iconst (v := 0) (pc' := 46) K dX2_fine_45 (by decide) rfl ?_
        refine zw_goto (tgt := 50) K dX2_fine_46 (by decide) ?_
        refine zw_iadd (pc' := 51) K dX2_fine_50 rfl ?_
        refine zn_iald (j := 2 * j) (v := ((zv μ 11) (2 * j))) (pc' := 52) K hW2.m11 (by rw [zx_2]; simp) (by have := hI.n; have := hI.g; omega) rfl dX2_fine_51 rfl ?_
        refine zw_goto (tgt := 60) K dX2_fine_52 (by decide) ?_
        exact zw_iret K hE dX2_fine_60 ⟨Nat.le_of_ble_eq_true rfl, Nat.le_of_ble_eq_true rfl⟩ (by rw [show zop_fine μ (nI j) b = ((zv μ 11) (2 * j), 0, μ) from by simp [zop_fine, xe_j, c10, c25]; rw [zside, if_pos c42]; rfl]; exact ⟨rfl, hW2⟩)
  · have c10 := zb_0.mp c10
    refine zw_aload_n (v := .ref (ad 100 0 0)) (pc' := 14) K dX2_fine_13 rfl rfl rfl ?_
    refine zw_iconst (v := 1) (pc' := 15) K dX2_fine_14 (by decide) rfl ?_
    refine zc_X2_77 (rest := []) (c' := 0) (n' := 0) (pc' := 18) K (ct_X2_fails hl hW2 1) hW2.mo rfl rfl dX2_fine_15 rfl (Nat.le_of_ble_eq_true rfl) ⟨Nat.le_of_ble_eq_true rfl, Nat.le_of_ble_eq_true rfl⟩ ⟨Nat.le_of_ble_eq_true rfl, Nat.le_of_ble_eq_true rfl, Nat.le_of_ble_eq_true rfl, Nat.le_of_ble_eq_true rfl⟩ (zw_ki fun r M1 h => ?_) zw_kn
    obtain ⟨rfl, hW4⟩ := h
    exact zw_iret K hE dX2_fine_18 ⟨Nat.le_of_ble_eq_true rfl, Nat.le_of_ble_eq_true rfl⟩ (by rw [show zop_fine μ f b = (0, 1, μ) from by simp [zop_fine, c10]]; exact ⟨rfl, hW4⟩)
set_option maxHeartbeats 2000000 in
theorem ct_X2_compensate {w : zw_W} {l : Launch} (hl : l.stackTraces = false) {M : zw_M} {ad : Nat → Nat → Nat → Nat} {σ μ : zS} {th : Int32} {o : Int64} (hW : zW w M ad σ μ th o) (hI : zI μ) (b x : Int32) : zw_C w l yX2_compensate cX2_compensate 3 (Option.some Jvm.ClassFile.FieldType.int) (zr 3 0 0) [.ref (ad 100 0 0), .int b, .int x] M (zw_pi fun r M1 => r = (zop_compensate μ b x).1 ∧ zW w M1 ad σ (zop_compensate μ b x).2.2 (zop_compensate μ b x).2.1 o) zw_no := by
  refine zw_enter RX2 rfl (by decide) hl (by simp [Value.category]) (Nat.le_of_ble_eq_true rfl) (fun X hXl hXw K hE htab hcon => ?_)
  subst hXl; subst hXw
  show zw_Z X _ 0 0 0 [some (.ref (ad 100 0 0)), some (.int b), some (.int x)] []
  refine zw_aload_n (v := .ref (ad 100 0 0)) (pc' := 1) K dX2_compensate_0 rfl rfl rfl ?_
  refine zw_iconst (v := 0) (pc' := 2) K dX2_compensate_1 (by decide) rfl ?_
  refine zp_X2_60 (v := .int 0) (pc' := 5) K hW.mo rfl rfl (by simp [zmob]) dX2_compensate_2 rfl ?_
  refine zw_nmM (fun M1 eM1 => ?_)
  have hW2 : zW (zw_Xw X) M1 ad σ μ 0 o := by rw [eM1]; exact hW.pth
  refine zw_iload_n (x := b) (pc' := 6) K dX2_compensate_5 rfl rfl ?_
  refine zc_X2_73 (rest := []) (c' := 0) (n' := 0) (pc' := 9) K (ct_X2_isBidder hl M1 b) rfl rfl dX2_compensate_6 rfl (Nat.le_of_ble_eq_true rfl) ⟨Nat.le_of_ble_eq_true rfl, Nat.le_of_ble_eq_true rfl⟩ ⟨Nat.le_of_ble_eq_true rfl, Nat.le_of_ble_eq_true rfl, Nat.le_of_ble_eq_true rfl, Nat.le_of_ble_eq_true rfl⟩ (zw_kp ?_) zw_kn
  refine zw_if_eq (tgt := 22) (pc' := 12) K dX2_compensate_9 (by decide) rfl (fun c9 => ?_) (fun c9 => ?_)
  · have c9 := zb_0.mp c9
    refine zw_aload_n (v := .ref (ad 100 0 0)) (pc' := 23) K dX2_compensate_22 rfl rfl rfl ?_
    refine zw_iconst (v := 1) (pc' := 24) K dX2_compensate_23 (by decide) rfl ?_
    refine zc_X2_77 (rest := []) (c' := 0) (n' := 0) (pc' := 27) K (ct_X2_fails hl hW2 1) hW2.mo rfl rfl dX2_compensate_24 rfl (Nat.le_of_ble_eq_true rfl) ⟨Nat.le_of_ble_eq_true rfl, Nat.le_of_ble_eq_true rfl⟩ ⟨Nat.le_of_ble_eq_true rfl, Nat.le_of_ble_eq_true rfl, Nat.le_of_ble_eq_true rfl, Nat.le_of_ble_eq_true rfl⟩ (zw_ki fun r M1 h => ?_) zw_kn
    obtain ⟨rfl, hW3⟩ := h
    exact zw_iret K hE dX2_compensate_27 ⟨Nat.le_of_ble_eq_true rfl, Nat.le_of_ble_eq_true rfl⟩ (by rw [show zop_compensate μ b x = (0, 1, μ) from by simp [zop_compensate, zmo, c9]]; exact ⟨rfl, hW3⟩)
  · have c9 := zb_nz.mp c9
    refine zw_iload_n (x := x) (pc' := 13) K dX2_compensate_12 rfl rfl ?_
    refine zw_iconst (v := 1) (pc' := 14) K dX2_compensate_13 (by decide) rfl ?_
    refine zw_ldc (v := 100000) (pc' := 16) K q761 dX2_compensate_14 rfl ?_
    refine zc_X2_63 (rest := []) (c' := 0) (n' := 0) (pc' := 19) K (ct_X2_in hl M1 x 1 100000) rfl rfl dX2_compensate_16 rfl (Nat.le_of_ble_eq_true rfl) ⟨Nat.le_of_ble_eq_true rfl, Nat.le_of_ble_eq_true rfl⟩ ⟨Nat.le_of_ble_eq_true rfl, Nat.le_of_ble_eq_true rfl, Nat.le_of_ble_eq_true rfl, Nat.le_of_ble_eq_true rfl⟩ (zw_kp ?_) zw_kn
    refine zw_if_ne (tgt := 28) (pc' := 22) K dX2_compensate_19 (by decide) rfl (fun c19 => ?_) (fun c19 => ?_)
    · have c19 := zb_nz.mp c19
      obtain ⟨j, hj, rfl⟩ := zin_of c9 (by have := hI.n; have := hI.g; omega)
      have xe_j : zx (nI j) = j := zx_n (by have := hI.n; have := hI.g; omega)
      refine zw_aload_n (v := .ref (ad 100 0 0)) (pc' := 29) K dX2_compensate_28 rfl rfl rfl ?_
      refine zg_X2_57 (v := .ref (ad 114 0 0)) (pc' := 32) K hW2.mo rfl dX2_compensate_29 rfl ?_
      refine zw_iload_n (x := (nI j)) (pc' := 33) K dX2_compensate_32 rfl rfl ?_
      refine zw_dup2 (pc' := 34) K dX2_compensate_33 rfl rfl rfl ?_
      refine zn_iald (j := j) (v := ((zv μ 13) j)) (pc' := 35) K hW2.m13 rfl hj rfl dX2_compensate_34 rfl ?_
      refine zw_iload_n (x := x) (pc' := 36) K dX2_compensate_35 rfl rfl ?_
      refine zw_iadd (pc' := 37) K dX2_compensate_36 rfl ?_
      refine zn_iast (j := j) (pc' := 38) K hW2.m13 rfl hj dX2_compensate_37 rfl ?_
      refine zw_nmM (fun M4 eM4 => ?_)
      have hW5 : zW (zw_Xw X) M4 ad σ (zset μ 13 j (((zv μ 13) j) + x)) 0 o := by rw [eM4]; exact hW2.p13
      refine zw_aload_n (v := .ref (ad 100 0 0)) (pc' := 39) K dX2_compensate_38 rfl rfl rfl ?_
      refine zg_X2_57 (v := .ref (ad 114 0 0)) (pc' := 42) K hW5.mo rfl dX2_compensate_39 rfl ?_
      refine zw_iload_n (x := (nI j)) (pc' := 43) K dX2_compensate_42 rfl rfl ?_
      refine zn_iald (j := j) (v := (zv μ 13 j + x)) (pc' := 44) K hW5.m13 rfl hj (by simp [zset_v]) dX2_compensate_43 rfl ?_
      exact zw_iret K hE dX2_compensate_44 ⟨Nat.le_of_ble_eq_true rfl, Nat.le_of_ble_eq_true rfl⟩ (by rw [show zop_compensate μ (nI j) x = (zv μ 13 j + x, 0, zset μ 13 j (((zv μ 13) j) + x)) from by simp [zop_compensate, zmo, xe_j, c9, c19]]; exact ⟨rfl, hW5⟩)
    · have c19 := zb_0.mp c19
      refine zw_aload_n (v := .ref (ad 100 0 0)) (pc' := 23) K dX2_compensate_22 rfl rfl rfl ?_
      refine zw_iconst (v := 1) (pc' := 24) K dX2_compensate_23 (by decide) rfl ?_
      refine zc_X2_77 (rest := []) (c' := 0) (n' := 0) (pc' := 27) K (ct_X2_fails hl hW2 1) hW2.mo rfl rfl dX2_compensate_24 rfl (Nat.le_of_ble_eq_true rfl) ⟨Nat.le_of_ble_eq_true rfl, Nat.le_of_ble_eq_true rfl⟩ ⟨Nat.le_of_ble_eq_true rfl, Nat.le_of_ble_eq_true rfl, Nat.le_of_ble_eq_true rfl, Nat.le_of_ble_eq_true rfl⟩ (zw_ki fun r M1 h => ?_) zw_kn
      obtain ⟨rfl, hW6⟩ := h
      exact zw_iret K hE dX2_compensate_27 ⟨Nat.le_of_ble_eq_true rfl, Nat.le_of_ble_eq_true rfl⟩ (by rw [show zop_compensate μ b x = (0, 1, μ) from by simp [zop_compensate, zmo, c9, c19]]; exact ⟨rfl, hW6⟩)
set_option maxHeartbeats 2000000 in
theorem ct_X2_fineFor {w : zw_W} {l : Launch} (hl : l.stackTraces = false) {M : zw_M} {ad : Nat → Nat → Nat → Nat} {σ μ : zS} {th : Int32} {o : Int64} (hW : zW w M ad σ μ th o) (hI : zJ μ) (f j : Nat) (x : Int32) (hf : f < 20) (hj : j < 7) (hnd : (zmt μ f).Nodup) (h30 : ∀ t ∈ zmt μ f, t < 30) : zw_C w l yX2_fineFor cX2_fineFor 7 (Option.some Jvm.ClassFile.FieldType.int) (zr 3 0 0) [.ref (ad 100 0 0), .int (nI f), .int (nI j), .int x] M (zw_pi fun r M1 => r = zdue μ f (nI j) x ∧ zW w M1 ad σ (zpay μ f (nI j) x) th o) zw_no := by
  refine zw_enter RX2 rfl (by decide) hl (by simp [Value.category]) (Nat.le_of_ble_eq_true rfl) (fun X hXl hXw K hE htab hcon => ?_)
  subst hXl; subst hXw
  show zw_Z X _ 0 0 0 [some (.ref (ad 100 0 0)), some (.int (nI f)), some (.int (nI j)), some (.int x), none, none, none] []
  refine zw_aload_n (v := .ref (ad 100 0 0)) (pc' := 1) K dX2_fineFor_0 rfl rfl rfl ?_
  refine zw_iload_n (x := nI j) (pc' := 2) K dX2_fineFor_1 rfl rfl ?_
  refine zc_X2_95 (rest := []) (c' := 0) (n' := 0) (pc' := 5) K (ct_X2_turnoverOf hl hW hI (nI j)) hW.mo rfl rfl dX2_fineFor_2 rfl (Nat.le_of_ble_eq_true rfl) ⟨Nat.le_of_ble_eq_true rfl, Nat.le_of_ble_eq_true rfl⟩ ⟨Nat.le_of_ble_eq_true rfl, Nat.le_of_ble_eq_true rfl, Nat.le_of_ble_eq_true rfl, Nat.le_of_ble_eq_true rfl⟩ (zw_kp ?_) zw_kn
  refine zw_bipush (v := 10) (pc' := 7) K dX2_fineFor_5 (by decide) rfl ?_
  refine zw_idiv (pc' := 8) K dX2_fineFor_7 (by decide) rfl ?_
  refine zw_istore (lv' := [some (.ref (ad 100 0 0)), some (.int (nI f)), some (.int (nI j)), some (.int x), some (.int ((zturn μ (nI j)) / 10)), none, none]) (pc' := 10) K dX2_fineFor_8 (by decide) rfl rfl ?_
  have J61 : ∀ (its : Int32), (its = zits μ f (nI j) x) → zw_Z X M 0 0 61 [some (.ref (ad 100 0 0)), some (.int (nI f)), some (.int (nI j)), some (.int x), some (.int ((zturn μ (nI j)) / 10)), none, none] [.int its] := by
    intro its hits
    refine zw_istore (lv' := [some (.ref (ad 100 0 0)), some (.int (nI f)), some (.int (nI j)), some (.int x), some (.int ((zturn μ (nI j)) / 10)), some (.int its), none]) (pc' := 63) K dX2_fineFor_61 (by decide) rfl rfl ?_
    have J85 : ∀ (less : Int32), (less = zless μ f (nI j) x) → zw_Z X M 0 0 85 [some (.ref (ad 100 0 0)), some (.int (nI f)), some (.int (nI j)), some (.int x), some (.int ((zturn μ (nI j)) / 10)), some (.int its), none] [.int less] := by
      intro less hless
      refine zw_istore (lv' := [some (.ref (ad 100 0 0)), some (.int (nI f)), some (.int (nI j)), some (.int x), some (.int ((zturn μ (nI j)) / 10)), some (.int its), some (.int less)]) (pc' := 87) K dX2_fineFor_85 (by decide) rfl rfl ?_
      refine zw_aload_n (v := .ref (ad 100 0 0)) (pc' := 88) K dX2_fineFor_87 rfl rfl rfl ?_
      refine zg_X2_57 (v := .ref (ad 114 0 0)) (pc' := 91) K hW.mo rfl dX2_fineFor_88 rfl ?_
      refine zw_iload_n (x := nI j) (pc' := 92) K dX2_fineFor_91 rfl rfl ?_
      refine zw_dup2 (pc' := 93) K dX2_fineFor_92 rfl rfl rfl ?_
      refine zn_iald (j := j) (v := ((zv μ 13) j)) (pc' := 94) K hW.m13 rfl hj rfl dX2_fineFor_93 rfl ?_
      refine zw_iload (x := less) (pc' := 96) K dX2_fineFor_94 rfl rfl ?_
      refine zw_isub (pc' := 97) K dX2_fineFor_96 rfl ?_
      refine zn_iast (j := j) (pc' := 98) K hW.m13 rfl hj dX2_fineFor_97 rfl ?_
      refine zw_nmM (fun M1 eM1 => ?_)
      have hW2 : zW (zw_Xw X) M1 ad σ (zset μ 13 j (((zv μ 13) j) - less)) th o := by rw [eM1]; exact hW.p13
      refine zw_iload (x := its) (pc' := 100) K dX2_fineFor_98 rfl rfl ?_
      refine zw_iload (x := less) (pc' := 102) K dX2_fineFor_100 rfl rfl ?_
      refine zw_isub (pc' := 103) K dX2_fineFor_102 rfl ?_
      exact zw_iret K hE dX2_fineFor_103 ⟨Nat.le_of_ble_eq_true rfl, Nat.le_of_ble_eq_true rfl⟩ (⟨by rw [zdue, ← hits, ← hless], by rw [show zpay μ f (nI j) x = zset μ 13 j (((zv μ 13) j) - less) from by rw [zpay, ← hless, zx_n (show j < 2 ^ 31 by omega)]]; exact hW2⟩)
    refine zw_aload_n (v := .ref (ad 100 0 0)) (pc' := 64) K dX2_fineFor_63 rfl rfl rfl ?_
    refine zg_X2_57 (v := .ref (ad 114 0 0)) (pc' := 67) K hW.mo rfl dX2_fineFor_64 rfl ?_
    refine zw_iload_n (x := nI j) (pc' := 68) K dX2_fineFor_67 rfl rfl ?_
    refine zn_iald (j := j) (v := ((zv μ 13) j)) (pc' := 69) K hW.m13 rfl hj rfl dX2_fineFor_68 rfl ?_
    refine zw_iload (x := its) (pc' := 71) K dX2_fineFor_69 rfl rfl ?_
    refine zw_icmp_ge (tgt := 83) (pc' := 74) K dX2_fineFor_71 (by decide) rfl (fun c71 => ?_) (fun c71 => ?_)
    · refine zw_iload (x := its) (pc' := 85) K dX2_fineFor_83 rfl rfl ?_
      exact J85 its (by rw [zless, ← hits, zx_n (show j < 2 ^ 31 by omega)]; simp [zs_min, Int32.not_lt.mpr c71])
    · refine zw_aload_n (v := .ref (ad 100 0 0)) (pc' := 75) K dX2_fineFor_74 rfl rfl rfl ?_
      refine zg_X2_57 (v := .ref (ad 114 0 0)) (pc' := 78) K hW.mo rfl dX2_fineFor_75 rfl ?_
      refine zw_iload_n (x := nI j) (pc' := 79) K dX2_fineFor_78 rfl rfl ?_
      refine zn_iald (j := j) (v := ((zv μ 13) j)) (pc' := 80) K hW.m13 rfl hj rfl dX2_fineFor_79 rfl ?_
      refine zw_goto (tgt := 85) K dX2_fineFor_80 (by decide) ?_
      exact J85 ((zv μ 13) j) (by rw [zless, ← hits, zx_n (show j < 2 ^ 31 by omega)]; simp [zs_min, Int32.not_le.mp c71])
  refine zw_aload_n (v := .ref (ad 100 0 0)) (pc' := 11) K dX2_fineFor_10 rfl rfl rfl ?_
  refine zg_X2_45 (v := .ref (ad 110 0 0)) (pc' := 14) K hW.mo rfl dX2_fineFor_11 rfl ?_
  refine zw_iload_n (x := nI f) (pc' := 15) K dX2_fineFor_14 rfl rfl ?_
  refine zn_iald (j := f) (v := ((zv μ 9) f)) (pc' := 16) K hW.m9 rfl hf rfl dX2_fineFor_15 rfl ?_
  refine zw_iload_n (x := nI j) (pc' := 17) K dX2_fineFor_16 rfl rfl ?_
  refine zw_icmp_eq (tgt := 38) (pc' := 20) K dX2_fineFor_17 (by decide) rfl (fun c17 => ?_) (fun c17 => ?_)
  · refine zw_iconst (v := 2) (pc' := 39) K dX2_fineFor_38 (by decide) rfl ?_
    refine zw_iload_n (x := x) (pc' := 40) K dX2_fineFor_39 rfl rfl ?_
    refine zw_imul (pc' := 41) K dX2_fineFor_40 rfl ?_
    refine zw_aload_n (v := .ref (ad 100 0 0)) (pc' := 42) K dX2_fineFor_41 rfl rfl rfl ?_
    refine zg_X2_39 (v := .ref (ad 115 0 0)) (pc' := 45) K hW.mo rfl dX2_fineFor_42 rfl ?_
    refine zw_iload_n (x := nI f) (pc' := 46) K dX2_fineFor_45 rfl rfl ?_
    refine zn_iald (j := f) (v := (zbits (zmt μ f))) (pc' := 47) K hW.m14 rfl hf rfl dX2_fineFor_46 rfl ?_
    refine zc_X2_115 (rest := [.int (2 * x)]) (c' := 0) (n' := 0) (pc' := 50) K (ct_X2_count hl M (zmt μ f) hnd h30) rfl rfl dX2_fineFor_47 rfl (Nat.le_of_ble_eq_true rfl) ⟨Nat.le_of_ble_eq_true rfl, Nat.le_of_ble_eq_true rfl⟩ ⟨Nat.le_of_ble_eq_true rfl, Nat.le_of_ble_eq_true rfl, Nat.le_of_ble_eq_true rfl, Nat.le_of_ble_eq_true rfl⟩ (zw_kp ?_) zw_kn
    refine zw_icmp_lt (tgt := 57) (pc' := 53) K dX2_fineFor_50 (by decide) rfl (fun c50 => ?_) (fun c50 => ?_)
    · refine zw_iload (x := (zturn μ (nI j)) / 10) (pc' := 59) K dX2_fineFor_57 rfl rfl ?_
      refine zw_iconst (v := 2) (pc' := 60) K dX2_fineFor_59 (by decide) rfl ?_
      refine zw_idiv (pc' := 61) K dX2_fineFor_60 (by decide) rfl ?_
      exact J61 (((zturn μ (nI j)) / 10) / 2) (by simp [zits, c17, Int32.not_le.mpr c50])
    · refine zw_iconst (v := 0) (pc' := 54) K dX2_fineFor_53 (by decide) rfl ?_
      refine zw_goto (tgt := 61) K dX2_fineFor_54 (by decide) ?_
      exact J61 0 (by simp [zits, c17, Int32.not_lt.mp c50])
  · refine zw_iload (x := (zturn μ (nI j)) / 10) (pc' := 22) K dX2_fineFor_20 rfl rfl ?_
    refine zw_iload_n (x := x) (pc' := 23) K dX2_fineFor_22 rfl rfl ?_
    refine zw_if_le (tgt := 33) (pc' := 26) K dX2_fineFor_23 (by decide) rfl (fun c23 => ?_) (fun c23 => ?_)
    · refine zw_iconst (v := 0) (pc' := 34) K dX2_fineFor_33 (by decide) rfl ?_
      refine zw_isub (pc' := 35) K dX2_fineFor_34 rfl ?_
      refine zw_goto (tgt := 61) K dX2_fineFor_35 (by decide) ?_
      exact J61 (((zturn μ (nI j)) / 10) - 0) (by simp [zits, c17, Int32.not_lt.mpr c23])
    · refine zw_iload (x := (zturn μ (nI j)) / 10) (pc' := 28) K dX2_fineFor_26 rfl rfl ?_
      refine zw_iconst (v := 4) (pc' := 29) K dX2_fineFor_28 (by decide) rfl ?_
      refine zw_idiv (pc' := 30) K dX2_fineFor_29 (by decide) rfl ?_
      refine zw_goto (tgt := 34) K dX2_fineFor_30 (by decide) ?_
      refine zw_isub (pc' := 35) K dX2_fineFor_34 rfl ?_
      refine zw_goto (tgt := 61) K dX2_fineFor_35 (by decide) ?_
      exact J61 (((zturn μ (nI j)) / 10) - (((zturn μ (nI j)) / 10) / 4)) (by simp [zits, c17, Int32.not_le.mp c23])
set_option maxHeartbeats 2000000 in
theorem ct_X2_close {w : zw_W} {l : Launch} (hl : l.stackTraces = false) {M : zw_M} {ad : Nat → Nat → Nat → Nat} {σ μ : zS} {th : Int32} {o : Int64} (hW : zW w M ad σ μ th o) (hI : zI μ) (f : Int32) : zw_C w l yX2_close cX2_close 2 (Option.some Jvm.ClassFile.FieldType.int) (zr 4 0 0) [.ref (ad 100 0 0), .int f] M (zw_pi fun r M1 => r = (zop_close μ f).1 ∧ zW w M1 ad σ (zop_close μ f).2.2 (zop_close μ f).2.1 o) zw_no := by
  refine zw_enter RX2 rfl (by decide) hl (by simp [Value.category]) (Nat.le_of_ble_eq_true rfl) (fun X hXl hXw K hE htab hcon => ?_)
  subst hXl; subst hXw
  show zw_Z X _ 0 0 0 [some (.ref (ad 100 0 0)), some (.int f)] []
  refine zw_aload_n (v := .ref (ad 100 0 0)) (pc' := 1) K dX2_close_0 rfl rfl rfl ?_
  refine zw_iconst (v := 0) (pc' := 2) K dX2_close_1 (by decide) rfl ?_
  refine zp_X2_60 (v := .int 0) (pc' := 5) K hW.mo rfl rfl (by simp [zmob]) dX2_close_2 rfl ?_
  refine zw_nmM (fun M1 eM1 => ?_)
  have hW2 : zW (zw_Xw X) M1 ad σ μ 0 o := by rw [eM1]; exact hW.pth
  refine zw_aload_n (v := .ref (ad 100 0 0)) (pc' := 6) K dX2_close_5 rfl rfl rfl ?_
  refine zw_iload_n (x := f) (pc' := 7) K dX2_close_6 rfl rfl ?_
  refine zc_X2_112 (rest := []) (c' := 0) (n' := 0) (pc' := 10) K (ct_X2_isFile hl hW2 f (by have := hI.g; omega)) hW2.mo rfl rfl dX2_close_7 rfl (Nat.le_of_ble_eq_true rfl) ⟨Nat.le_of_ble_eq_true rfl, Nat.le_of_ble_eq_true rfl⟩ ⟨Nat.le_of_ble_eq_true rfl, Nat.le_of_ble_eq_true rfl, Nat.le_of_ble_eq_true rfl, Nat.le_of_ble_eq_true rfl⟩ (zw_kp ?_) zw_kn
  refine zw_if_ne (tgt := 19) (pc' := 13) K dX2_close_10 (by decide) rfl (fun c10 => ?_) (fun c10 => ?_)
  · have c10 := zb_nz.mp c10
    obtain ⟨j, hj, rfl⟩ := zin_of c10 (by have := hI.n; have := hI.g; omega)
    have xe_j : zx (nI j) = j := zx_n (by have := hI.n; have := hI.g; omega)
    refine zw_aload_n (v := .ref (ad 100 0 0)) (pc' := 20) K dX2_close_19 rfl rfl rfl ?_
    refine zg_X2_54 (v := .ref (ad 113 0 0)) (pc' := 23) K hW2.mo rfl dX2_close_20 rfl ?_
    refine zw_iload_n (x := (nI j)) (pc' := 24) K dX2_close_23 rfl rfl ?_
    refine zn_zald (j := j) (v := ((zv μ 12) j)) (pc' := 25) K hW2.m12 rfl (by have := hI.n; have := hI.g; omega) rfl dX2_close_24 rfl ?_
    refine zw_if_eq (tgt := 34) (pc' := 28) K dX2_close_25 (by decide) rfl (fun c25 => ?_) (fun c25 => ?_)
    · obtain ⟨a, b, hab, hb, ea, eb⟩ := (hI.fi hj).1
      have ha : a < 7 := by omega
      refine zw_aload_n (v := .ref (ad 100 0 0)) (pc' := 35) K dX2_close_34 rfl rfl rfl ?_
      refine zg_X2_51 (v := .ref (ad 112 0 0)) (pc' := 38) K hW2.mo rfl dX2_close_35 rfl ?_
      refine zw_iconst (v := 2) (pc' := 39) K dX2_close_38 (by decide) rfl ?_
      refine zw_iload_n (x := (nI j)) (pc' := 40) K dX2_close_39 rfl rfl ?_
      refine zw_imul (pc' := 41) K dX2_close_40 rfl ?_
      refine zw_aload_n (v := .ref (ad 100 0 0)) (pc' := 42) K dX2_close_41 rfl rfl rfl ?_
      refine zw_iload_n (x := (nI j)) (pc' := 43) K dX2_close_42 rfl rfl ?_
      refine zw_aload_n (v := .ref (ad 100 0 0)) (pc' := 44) K dX2_close_43 rfl rfl rfl ?_
      refine zg_X2_33 (v := .ref (ad 108 0 0)) (pc' := 47) K hW2.mo rfl dX2_close_44 rfl ?_
      refine zw_iload_n (x := (nI j)) (pc' := 48) K dX2_close_47 rfl rfl ?_
      refine zn_iald (j := j) (v := (nI a)) (pc' := 49) K hW2.m7 rfl (by have := hI.n; have := hI.g; omega) ea dX2_close_48 rfl ?_
      refine zw_aload_n (v := .ref (ad 100 0 0)) (pc' := 50) K dX2_close_49 rfl rfl rfl ?_
      refine zg_X2_48 (v := .ref (ad 111 0 0)) (pc' := 53) K hW2.mo rfl dX2_close_50 rfl ?_
      refine zw_iconst (v := 2) (pc' := 54) K dX2_close_53 (by decide) rfl ?_
      refine zw_iload_n (x := (nI j)) (pc' := 55) K dX2_close_54 rfl rfl ?_
      refine zw_imul (pc' := 56) K dX2_close_55 rfl ?_
      refine zn_iald (j := 2 * j) (v := ((zv μ 10) (2 * j))) (pc' := 57) K hW2.m10 (zx_2 j) (by have := hI.n; have := hI.g; omega) rfl dX2_close_56 rfl ?_
      refine zc_X2_121 (rest := [.int (2 * (nI j)), .ref (ad 112 0 0)]) (c' := 0) (n' := 0) (pc' := 60) K (ct_X2_fineFor hl hW2 hI.j j a (zv μ 10 (2 * j)) (by have := hI.n; have := hI.g; omega) ha (hI.ls hj).1 (fun t ht => by have := hI.n; have := (hI.ls hj).2.1 t ht; omega)) hW2.mo rfl rfl dX2_close_57 rfl (Nat.le_of_ble_eq_true rfl) ⟨Nat.le_of_ble_eq_true rfl, Nat.le_of_ble_eq_true rfl⟩ ⟨Nat.le_of_ble_eq_true rfl, Nat.le_of_ble_eq_true rfl, Nat.le_of_ble_eq_true rfl, Nat.le_of_ble_eq_true rfl⟩ (zw_ki fun r M1 h => ?_) zw_kn
      obtain ⟨rfl, hW3⟩ := h
      refine zn_iast (j := 2 * j) (pc' := 61) K hW3.m11 (zx_2 j) (by have := hI.n; have := hI.g; omega) dX2_close_60 rfl ?_
      refine zw_nmM (fun M4 eM4 => ?_)
      have hW5 : zW (zw_Xw X) M4 ad σ (zset (zpay μ j (nI a) (zv μ 10 (2 * j))) 11 (2 * j) (zdue μ j (nI a) (zv μ 10 (2 * j)))) 0 o := by rw [eM4]; exact hW3.p11
      obtain ⟨μ1, eμ1⟩ : ∃ z, z = zcl1 μ j := ⟨_, rfl⟩
      have hW61 : zW (zw_Xw X) M4 ad σ μ1 0 o := by rw [eμ1]; unfold zcl1; rw [ea]; exact hW5
      have e8 : zv μ1 8 j = nI b := by rw [eμ1, ← eb]; simp [zcl1, zset_v, zpay]
      have e10 : zv μ1 10 (2 * j + 1) = zv μ 10 (2 * j + 1) := by rw [eμ1]; simp [zcl1, zset_v, zpay]
      have e11 : zv μ1 11 (2 * j) = zdue μ j (nI a) (zv μ 10 (2 * j)) := by rw [eμ1, ← ea]; simp [zcl1, zset_v, zpay]
      have hJ1 : zJ μ1 := by rw [eμ1]; exact (hI.j.set (by decide)).set (by decide)
      have em : zmt μ1 j = zmt μ j := by rw [eμ1]; rfl
      refine zw_aload_n (v := .ref (ad 100 0 0)) (pc' := 62) K dX2_close_61 rfl rfl rfl ?_
      refine zg_X2_51 (v := .ref (ad 112 0 0)) (pc' := 65) K hW61.mo rfl dX2_close_62 rfl ?_
      refine zw_iconst (v := 2) (pc' := 66) K dX2_close_65 (by decide) rfl ?_
      refine zw_iload_n (x := (nI j)) (pc' := 67) K dX2_close_66 rfl rfl ?_
      refine zw_imul (pc' := 68) K dX2_close_67 rfl ?_
      refine zw_iconst (v := 1) (pc' := 69) K dX2_close_68 (by decide) rfl ?_
      refine zw_iadd (pc' := 70) K dX2_close_69 rfl ?_
      refine zw_aload_n (v := .ref (ad 100 0 0)) (pc' := 71) K dX2_close_70 rfl rfl rfl ?_
      refine zw_iload_n (x := (nI j)) (pc' := 72) K dX2_close_71 rfl rfl ?_
      refine zw_aload_n (v := .ref (ad 100 0 0)) (pc' := 73) K dX2_close_72 rfl rfl rfl ?_
      refine zg_X2_36 (v := .ref (ad 109 0 0)) (pc' := 76) K hW61.mo rfl dX2_close_73 rfl ?_
      refine zw_iload_n (x := (nI j)) (pc' := 77) K dX2_close_76 rfl rfl ?_
      refine zn_iald (j := j) (v := (nI b)) (pc' := 78) K hW61.m8 rfl (by have := hI.n; have := hI.g; omega) e8 dX2_close_77 rfl ?_
      refine zw_aload_n (v := .ref (ad 100 0 0)) (pc' := 79) K dX2_close_78 rfl rfl rfl ?_
      refine zg_X2_48 (v := .ref (ad 111 0 0)) (pc' := 82) K hW61.mo rfl dX2_close_79 rfl ?_
      refine zw_iconst (v := 2) (pc' := 83) K dX2_close_82 (by decide) rfl ?_
      refine zw_iload_n (x := (nI j)) (pc' := 84) K dX2_close_83 rfl rfl ?_
      refine zw_imul (pc' := 85) K dX2_close_84 rfl ?_
      refine zw_iconst (v := 1) (pc' := 86) K dX2_close_85 (by decide) rfl ?_
      refine zw_iadd (pc' := 87) K dX2_close_86 rfl ?_
      refine zn_iald (j := 2 * j + 1) (v := (zv μ 10 (2 * j + 1))) (pc' := 88) K hW61.m10 (zx_21 j) (by have := hI.n; have := hI.g; omega) e10 dX2_close_87 rfl ?_
      refine zc_X2_121 (rest := [.int ((2 * (nI j)) + 1), .ref (ad 112 0 0)]) (c' := 0) (n' := 0) (pc' := 91) K (ct_X2_fineFor hl hW61 hJ1 j b (zv μ 10 (2 * j + 1)) (by have := hI.n; have := hI.g; omega) hb (by rw [em]; exact (hI.ls hj).1) (by rw [em]; exact (fun t ht => by have := hI.n; have := (hI.ls hj).2.1 t ht; omega))) hW61.mo rfl rfl dX2_close_88 rfl (Nat.le_of_ble_eq_true rfl) ⟨Nat.le_of_ble_eq_true rfl, Nat.le_of_ble_eq_true rfl⟩ ⟨Nat.le_of_ble_eq_true rfl, Nat.le_of_ble_eq_true rfl, Nat.le_of_ble_eq_true rfl, Nat.le_of_ble_eq_true rfl⟩ (zw_ki fun r M1 h => ?_) zw_kn
      obtain ⟨rfl, hW6⟩ := h
      refine zn_iast (j := 2 * j + 1) (pc' := 92) K hW6.m11 (zx_21 j) (by have := hI.n; have := hI.g; omega) dX2_close_91 rfl ?_
      refine zw_nmM (fun M7 eM7 => ?_)
      have hW8 : zW (zw_Xw X) M7 ad σ (zset (zpay μ1 j (nI b) (zv μ 10 (2 * j + 1))) 11 (2 * j + 1) (zdue μ1 j (nI b) (zv μ 10 (2 * j + 1)))) 0 o := by rw [eM7]; exact hW6.p11
      obtain ⟨μ2, eμ2⟩ : ∃ z, z = zcl2 μ j := ⟨_, rfl⟩
      have e82 : zv μ 8 j = nI b := eb
      have hW92 : zW (zw_Xw X) M7 ad σ μ2 0 o := by rw [eμ2]; unfold zcl2; rw [eb, ← eμ1]; exact hW8
      have f11 : zv μ2 11 (2 * j) = zdue μ j (nI a) (zv μ 10 (2 * j)) := by rw [eμ2, zcl2_a, ← eμ1]; exact e11
      have f12 : zv μ2 11 (2 * j + 1) = zdue μ1 j (nI b) (zv μ 10 (2 * j + 1)) := by rw [eμ2, zcl2_b, ← eμ1, eb]
      refine zw_aload_n (v := .ref (ad 100 0 0)) (pc' := 93) K dX2_close_92 rfl rfl rfl ?_
      refine zg_X2_54 (v := .ref (ad 113 0 0)) (pc' := 96) K hW92.mo rfl dX2_close_93 rfl ?_
      refine zw_iload_n (x := (nI j)) (pc' := 97) K dX2_close_96 rfl rfl ?_
      refine zw_iconst (v := 1) (pc' := 98) K dX2_close_97 (by decide) rfl ?_
      refine zn_zast (j := j) (pc' := 99) K hW92.m12 rfl (by have := hI.n; have := hI.g; omega) rfl dX2_close_98 rfl ?_
      refine zw_nmM (fun M9 eM9 => ?_)
      have hW10 : zW (zw_Xw X) M9 ad σ (zset μ2 12 j 1) 0 o := by rw [eM9]; exact hW92.p12
      refine zw_aload_n (v := .ref (ad 100 0 0)) (pc' := 100) K dX2_close_99 rfl rfl rfl ?_
      refine zg_X2_51 (v := .ref (ad 112 0 0)) (pc' := 103) K hW10.mo rfl dX2_close_100 rfl ?_
      refine zw_iconst (v := 2) (pc' := 104) K dX2_close_103 (by decide) rfl ?_
      refine zw_iload_n (x := (nI j)) (pc' := 105) K dX2_close_104 rfl rfl ?_
      refine zw_imul (pc' := 106) K dX2_close_105 rfl ?_
      refine zn_iald (j := 2 * j) (v := (zdue μ j (nI a) (zv μ 10 (2 * j)))) (pc' := 107) K hW10.m11 (zx_2 j) (by have := hI.n; have := hI.g; omega) (by rw [zset_v, if_neg (by simp)]; exact f11) dX2_close_106 rfl ?_
      refine zw_aload_n (v := .ref (ad 100 0 0)) (pc' := 108) K dX2_close_107 rfl rfl rfl ?_
      refine zg_X2_51 (v := .ref (ad 112 0 0)) (pc' := 111) K hW10.mo rfl dX2_close_108 rfl ?_
      refine zw_iconst (v := 2) (pc' := 112) K dX2_close_111 (by decide) rfl ?_
      refine zw_iload_n (x := (nI j)) (pc' := 113) K dX2_close_112 rfl rfl ?_
      refine zw_imul (pc' := 114) K dX2_close_113 rfl ?_
      refine zw_iconst (v := 1) (pc' := 115) K dX2_close_114 (by decide) rfl ?_
      refine zw_iadd (pc' := 116) K dX2_close_115 rfl ?_
      refine zn_iald (j := 2 * j + 1) (v := (zdue μ1 j (nI b) (zv μ 10 (2 * j + 1)))) (pc' := 117) K hW10.m11 (zx_21 j) (by have := hI.n; have := hI.g; omega) (by rw [zset_v, if_neg (by simp)]; exact f12) dX2_close_116 rfl ?_
      refine zw_iadd (pc' := 118) K dX2_close_117 rfl ?_
      exact zw_iret K hE dX2_close_118 ⟨Nat.le_of_ble_eq_true rfl, Nat.le_of_ble_eq_true rfl⟩ (by rw [show zop_close μ (nI j) = ((zdue μ j (nI a) (zv μ 10 (2 * j))) + (zdue μ1 j (nI b) (zv μ 10 (2 * j + 1))), 0, zset μ2 12 j 1) from by unfold zop_close; rw [xe_j, if_neg (by simp [c10]), if_pos c25, ea, eb, ← eμ1, ← eμ2]]; exact ⟨rfl, hW10⟩)
    · refine zw_aload_n (v := .ref (ad 100 0 0)) (pc' := 29) K dX2_close_28 rfl rfl rfl ?_
      refine zw_iconst (v := 2) (pc' := 30) K dX2_close_29 (by decide) rfl ?_
      refine zc_X2_77 (rest := []) (c' := 0) (n' := 0) (pc' := 33) K (ct_X2_fails hl hW2 2) hW2.mo rfl rfl dX2_close_30 rfl (Nat.le_of_ble_eq_true rfl) ⟨Nat.le_of_ble_eq_true rfl, Nat.le_of_ble_eq_true rfl⟩ ⟨Nat.le_of_ble_eq_true rfl, Nat.le_of_ble_eq_true rfl, Nat.le_of_ble_eq_true rfl, Nat.le_of_ble_eq_true rfl⟩ (zw_ki fun r M1 h => ?_) zw_kn
      obtain ⟨rfl, hW11⟩ := h
      exact zw_iret K hE dX2_close_33 ⟨Nat.le_of_ble_eq_true rfl, Nat.le_of_ble_eq_true rfl⟩ (by rw [show zop_close μ (nI j) = (0, 2, μ) from by simp [zop_close, xe_j, c10, c25]]; exact ⟨rfl, hW11⟩)
  · have c10 := zb_0.mp c10
    refine zw_aload_n (v := .ref (ad 100 0 0)) (pc' := 14) K dX2_close_13 rfl rfl rfl ?_
    refine zw_iconst (v := 1) (pc' := 15) K dX2_close_14 (by decide) rfl ?_
    refine zc_X2_77 (rest := []) (c' := 0) (n' := 0) (pc' := 18) K (ct_X2_fails hl hW2 1) hW2.mo rfl rfl dX2_close_15 rfl (Nat.le_of_ble_eq_true rfl) ⟨Nat.le_of_ble_eq_true rfl, Nat.le_of_ble_eq_true rfl⟩ ⟨Nat.le_of_ble_eq_true rfl, Nat.le_of_ble_eq_true rfl, Nat.le_of_ble_eq_true rfl, Nat.le_of_ble_eq_true rfl⟩ (zw_ki fun r M1 h => ?_) zw_kn
    obtain ⟨rfl, hW12⟩ := h
    exact zw_iret K hE dX2_close_18 ⟨Nat.le_of_ble_eq_true rfl, Nat.le_of_ble_eq_true rfl⟩ (by rw [show zop_close μ f = (0, 1, μ) from by simp [zop_close, c10]]; exact ⟨rfl, hW12⟩)
