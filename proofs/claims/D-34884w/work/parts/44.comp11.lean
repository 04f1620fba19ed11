/-! CartelWatch: fineFor, close -/
set_option maxRecDepth 100000
set_option maxHeartbeats 2000000 in
theorem ct_X1_fineFor {w : zw_W} {la : Launch} (hl : la.stackTraces = false) {M : zw_M} {ad : Nat → Nat → Nat → Nat} {σ μ : zS} {th : Int32} {o : Int64} (hW : zW w M ad σ μ th o) (hI : zI σ) (f k : Nat) (hf : f < zg σ) (hk : k < 7) (hb : (nI k == zv σ 7 f || nI k == zv σ 8 f) = true) : zw_C w la yX1_fineFor cX1_fineFor 5 (Option.some Jvm.ClassFile.FieldType.int) (zrl 8 1 1) [.ref (ad 0 0 0), .ref (ad 20 f 0), .int (nI k)] M (zw_pi fun r M1 => r = zdue σ f (nI k) (zv σ 10 (zside σ f (nI k))) ∧ zW w M1 ad (zff σ f (nI k)) μ th o) zw_no := by
  refine zw_enter RX1 rfl (by decide) hl (by simp [Value.category]) (Nat.le_of_ble_eq_true rfl) (fun X hXl hXw K hE htab hcon => ?_)
  subst hXl; subst hXw
  show zw_Z X _ 0 0 0 [some (.ref (ad 0 0 0)), some (.ref (ad 20 f 0)), some (.int (nI k)), none, none] []
  refine zw_aload_n (v := .ref (ad 20 f 0)) (pc' := 1) K dX1_fineFor_0 rfl rfl rfl ?_
  refine zw_iload_n (x := nI k) (pc' := 2) K dX1_fineFor_1 rfl rfl ?_
  refine zw_aload_n (v := .ref (ad 0 0 0)) (pc' := 3) K dX1_fineFor_2 rfl rfl rfl ?_
  refine zw_iload_n (x := nI k) (pc' := 4) K dX1_fineFor_3 rfl rfl ?_
  refine zc_X1_136 (rest := [.int (nI k), .ref (ad 20 f 0)]) (c' := 1) (n' := 1) (pc' := 7) K (ct_X1_turnoverOf hl hW hI (nI k) (zs_neg1 k (by omega))) hW.c0 rfl rfl dX1_fineFor_4 rfl (Nat.le_of_ble_eq_true rfl) ⟨Nat.le_of_ble_eq_true rfl, Nat.le_of_ble_eq_true rfl⟩ ⟨Nat.le_of_ble_eq_true rfl, Nat.le_of_ble_eq_true rfl, Nat.le_of_ble_eq_true rfl, Nat.le_of_ble_eq_true rfl⟩ (zw_ki fun r Ma h => ?_) zw_kn
  obtain ⟨hr, hW1⟩ := h
  subst hr
  have hits : (if nI k = zv σ 9 f then (if nI (zmt σ f).length ≤ 2 * zpr σ 10 f k then 0 else zturn σ (nI k) / 10 / 2) else (if 0 < zpr σ 10 f k then zturn σ (nI k) / 10 - zturn σ (nI k) / 10 / 4 else zturn σ (nI k) / 10)) = zits σ f (nI k) (zv σ 10 (zside σ f (nI k))) := by
    rw [zpr_side hk hb]; unfold zits
    by_cases z : nI k = zv σ 9 f
    · rw [if_pos z, if_pos z.symm]
    · rw [if_neg z, if_neg (show ¬ zv σ 9 f = nI k from fun q => z q.symm)]
      by_cases y : 0 < (zv σ 10 (zside σ f (nI k)))
      · rw [if_pos y, if_pos y]
      · rw [if_neg y, if_neg y]; simp
  have z7 := ct_X6_fineOf (w := zw_Xw X) hl Ma (ad 20 f 0) k (zturn σ (nI k)) (hW1.c20 hf) (hW1.c22 hf) (hW1.c24 hf) hk
  rw [hits] at z7
  refine zc_X1_208 (rest := []) (c' := 1) (n' := 1) (pc' := 10) K (z7) (hW1.c20 hf) rfl rfl dX1_fineFor_7 rfl (Nat.le_of_ble_eq_true rfl) ⟨Nat.le_of_ble_eq_true rfl, Nat.le_of_ble_eq_true rfl⟩ ⟨Nat.le_of_ble_eq_true rfl, Nat.le_of_ble_eq_true rfl, Nat.le_of_ble_eq_true rfl, Nat.le_of_ble_eq_true rfl⟩ (zw_kp ?_) zw_kn
  refine zw_istore_n (lv' := [some (.ref (ad 0 0 0)), some (.ref (ad 20 f 0)), some (.int (nI k)), some (.int (zits σ f (nI k) (zv σ 10 (zside σ f (nI k))))), none]) (pc' := 11) K dX1_fineFor_10 (by decide) rfl rfl ?_
  refine zw_iload_n (x := zits σ f (nI k) (zv σ 10 (zside σ f (nI k)))) (pc' := 12) K dX1_fineFor_11 rfl rfl ?_
  refine zw_aload_n (v := .ref (ad 0 0 0)) (pc' := 13) K dX1_fineFor_12 rfl rfl rfl ?_
  refine zg_X1_35 (v := .ref (ad 3 0 0)) (pc' := 16) K hW1.c0 rfl dX1_fineFor_13 rfl ?_
  refine zw_iload_n (x := nI k) (pc' := 17) K dX1_fineFor_16 rfl rfl ?_
  refine zn_iald (j := k) (v := ((zv σ 13) k)) (pc' := 18) K hW1.c3 rfl hk rfl dX1_fineFor_17 rfl ?_
  refine zw_min (pc' := 21) K q655 q105 q33 q106 ⟨Nat.le_of_ble_eq_true rfl, Nat.le_of_ble_eq_true rfl, Nat.le_of_ble_eq_true rfl, Nat.le_of_ble_eq_true rfl⟩ dX1_fineFor_18 rfl ?_
  refine zw_nmi (fun tk etk => ?_)
  refine zw_istore (lv' := [some (.ref (ad 0 0 0)), some (.ref (ad 20 f 0)), some (.int (nI k)), some (.int (zits σ f (nI k) (zv σ 10 (zside σ f (nI k))))), some (.int tk)]) (pc' := 23) K dX1_fineFor_21 (by decide) rfl rfl ?_
  refine zw_aload_n (v := .ref (ad 0 0 0)) (pc' := 24) K dX1_fineFor_23 rfl rfl rfl ?_
  refine zg_X1_35 (v := .ref (ad 3 0 0)) (pc' := 27) K hW1.c0 rfl dX1_fineFor_24 rfl ?_
  refine zw_iload_n (x := nI k) (pc' := 28) K dX1_fineFor_27 rfl rfl ?_
  refine zw_dup2 (pc' := 29) K dX1_fineFor_28 rfl rfl rfl ?_
  refine zn_iald (j := k) (v := ((zv σ 13) k)) (pc' := 30) K hW1.c3 rfl hk rfl dX1_fineFor_29 rfl ?_
  refine zw_iload (x := tk) (pc' := 32) K dX1_fineFor_30 rfl rfl ?_
  refine zw_isub (pc' := 33) K dX1_fineFor_32 rfl ?_
  refine zn_iast (j := k) (pc' := 34) K hW1.c3 rfl hk dX1_fineFor_33 rfl ?_
  refine zw_nmM (fun M1 eM1 => ?_)
  have hW2 : zW (zw_Xw X) M1 ad (zset σ 13 k (((zv σ 13) k) - tk)) μ th o := by rw [eM1]; exact hW1.q13
  refine zw_aload_n (v := .ref (ad 20 f 0)) (pc' := 35) K dX1_fineFor_34 rfl rfl rfl ?_
  refine zg_X1_214 (v := .ref (ad 25 f 0)) (pc' := 38) K (hW2.c20 hf) rfl dX1_fineFor_35 rfl ?_
  refine zw_iload_n (x := nI k) (pc' := 39) K dX1_fineFor_38 rfl rfl ?_
  refine zw_iload_n (x := zits σ f (nI k) (zv σ 10 (zside σ f (nI k)))) (pc' := 40) K dX1_fineFor_39 rfl rfl ?_
  refine zw_iload (x := tk) (pc' := 42) K dX1_fineFor_40 rfl rfl ?_
  refine zw_isub (pc' := 43) K dX1_fineFor_42 rfl ?_
  refine zn_iast (j := k) (pc' := 44) K (hW2.c25 hf) rfl hk dX1_fineFor_43 rfl ?_
  refine zw_nmM (fun M3 eM3 => ?_)
  have hW4 : zW (zw_Xw X) M3 ad (zset (zset σ 13 k (zv σ 13 k - tk)) 11 (zside σ f (nI k)) (zits σ f (nI k) (zv σ 10 (zside σ f (nI k))) - tk)) μ th o := by rw [eM3]; exact hW2.q25 (f := f) hf hk (hI.ne78 hf) hb
  refine zw_iload_n (x := zits σ f (nI k) (zv σ 10 (zside σ f (nI k)))) (pc' := 45) K dX1_fineFor_44 rfl rfl ?_
  refine zw_iload (x := tk) (pc' := 47) K dX1_fineFor_45 rfl rfl ?_
  refine zw_isub (pc' := 48) K dX1_fineFor_47 rfl ?_
  have htk : tk = zless σ f (nI k) (zv σ 10 (zside σ f (nI k))) := by rw [etk]; unfold zless; rw [zx_n (by omega : k < 2 ^ 31)]; rfl
  have e13 : zff σ f (nI k) = zset (zset σ 13 k (zv σ 13 k - tk)) 11 (zside σ f (nI k)) (zits σ f (nI k) (zv σ 10 (zside σ f (nI k))) - tk) := by unfold zff zpay zdue; rw [zx_n (by omega : k < 2 ^ 31), ← htk]
  exact zw_iret K hE dX1_fineFor_48 ⟨Nat.le_of_ble_eq_true rfl, Nat.le_of_ble_eq_true rfl⟩ (⟨by unfold zdue; rw [htk], by rw [e13]; exact hW4⟩)
set_option maxHeartbeats 2000000 in
theorem ct_X1_close {w : zw_W} {la : Launch} (hl : la.stackTraces = false) {M : zw_M} {ad : Nat → Nat → Nat → Nat} {σ μ : zS} {th : Int32} {o : Int64} (hW : zW w M ad σ μ th o) (hI : zI σ) (x : Int32) : zw_C w la yX1_close cX1_close 3 (Option.some Jvm.ClassFile.FieldType.int) (zrl 9 4 14) [.ref (ad 0 0 0), .int x] M (zw_pi (zPo w ad μ th o (zop_close σ x))) (zPx ["java/lang/IndexOutOfBoundsException", "java/lang/IllegalStateException"] w ad σ μ th o (zop_close σ x)) := by
  refine zw_enter RX1 rfl (by decide) hl (by simp [Value.category]) (Nat.le_of_ble_eq_true rfl) (fun X hXl hXw K hE htab hcon => ?_)
  subst hXl; subst hXw
  show zw_Z X _ 0 0 0 [some (.ref (ad 0 0 0)), some (.int x), none] []
  refine zw_aload_n (v := .ref (ad 0 0 0)) (pc' := 1) K dX1_close_0 rfl rfl rfl ?_
  refine zg_X1_32 (v := .ref (ad 2 0 0)) (pc' := 4) K hW.c0 rfl dX1_close_1 rfl ?_
  refine zw_iload_n (x := x) (pc' := 5) K dX1_close_4 rfl rfl ?_
  refine zc_X1_86 (rest := []) (c' := 1) (n' := 6) (pc' := 8) K (ct_X1_at hl M (ad 2 0 0) (zg σ) x hW.c2 (by have := hI.g; omega)) rfl rfl dX1_close_5 rfl (Nat.le_of_ble_eq_true rfl) ⟨Nat.le_of_ble_eq_true rfl, Nat.le_of_ble_eq_true rfl⟩ ⟨Nat.le_of_ble_eq_true rfl, Nat.le_of_ble_eq_true rfl, Nat.le_of_ble_eq_true rfl, Nat.le_of_ble_eq_true rfl⟩ (zw_kr fun r M1 h => ?_) (fun E M1 h => ?_)
  · obtain ⟨hr, h1, hM⟩ := h
    have hM := hM.symm
    subst hM
    obtain ⟨j, hj, ej⟩ := zin_of h1 (by have := hI.g; omega)
    subst ej
    have hr : r = some (ad 20 j 0) := by rw [hr, zx_n (by have := hI.g; omega)]
    subst hr
    refine zw_cast (ci := 4) (pc' := 11) K rfl q536 (hW.c20 hj) dX1_close_8 rfl ?_
    refine zw_astore_n (lv' := [some (.ref (ad 0 0 0)), some (.int (nI j)), some (.ref (ad 20 j 0))]) (pc' := 12) K dX1_close_11 rfl (by decide) rfl rfl ?_
    refine zw_aload_n (v := .ref (ad 20 j 0)) (pc' := 13) K dX1_close_12 rfl rfl rfl ?_
    refine zg_X1_193 (v := .int (zv σ 12 j)) (pc' := 16) K (hW.c20 hj) rfl dX1_close_13 rfl ?_
    refine zw_if_ne (tgt := 23) (pc' := 19) K dX1_close_16 (by decide) rfl (fun c16 => ?_) (fun c16 => ?_)
    · refine zw_iconst (v := 0) (pc' := 24) K dX1_close_23 (by decide) rfl ?_
      refine zc_X1_75 (rest := []) (c' := 2) (n' := 12) (pc' := 27) K (ct_X1_must hl M false) rfl rfl dX1_close_24 rfl (Nat.le_of_ble_eq_true rfl) ⟨Nat.le_of_ble_eq_true rfl, Nat.le_of_ble_eq_true rfl⟩ ⟨Nat.le_of_ble_eq_true rfl, Nat.le_of_ble_eq_true rfl, Nat.le_of_ble_eq_true rfl, Nat.le_of_ble_eq_true rfl⟩ (zw_kv fun M1 h => absurd h.1 (by decide)) (fun E M1 h => ?_)
      obtain ⟨h0, -, hM⟩ := h
      have hM := hM.symm
      subst h0; subst hM
      exact zw_out K hE htab ⟨Nat.le_of_ble_eq_true rfl, Nat.le_of_ble_eq_true rfl⟩ (zPx.mk 1 (c := 2) (by unfold zop_close; rw [if_neg (by simp [h1]), zx_n (by have := hI.g; omega : j < 2 ^ 31), if_neg c16]) (by decide) rfl hW)
    · refine zw_iconst (v := 1) (pc' := 20) K dX1_close_19 (by decide) rfl ?_
      refine zw_goto (tgt := 24) K dX1_close_20 (by decide) ?_
      refine zc_X1_75 (rest := []) (c' := 2) (n' := 12) (pc' := 27) K (ct_X1_must hl M true) rfl rfl dX1_close_24 rfl (Nat.le_of_ble_eq_true rfl) ⟨Nat.le_of_ble_eq_true rfl, Nat.le_of_ble_eq_true rfl⟩ ⟨Nat.le_of_ble_eq_true rfl, Nat.le_of_ble_eq_true rfl, Nat.le_of_ble_eq_true rfl, Nat.le_of_ble_eq_true rfl⟩ (zw_kv fun M1 h => ?_) (fun E M1 h => absurd h.2.1 (by decide))
      obtain ⟨-, hM⟩ := h
      have hM := hM.symm
      subst hM
      obtain ⟨⟨a, b, hab, hb7, e7, e8⟩, -⟩ := hI.fi hj
      have hI1 : zI (zset σ 12 j 1) := hI.s12 hj
      have hI2 : zI (zff (zset σ 12 j 1) j (nI a)) := hI1.ff hj
      have hb1 : (nI a == zv (zset σ 12 j 1) 7 j || nI a == zv (zset σ 12 j 1) 8 j) = true := by rw [show zv (zset σ 12 j 1) 7 j = nI a from e7, Bool.or_eq_true]; exact Or.inl (beq_self_eq_true _)
      have hb2 : (nI b == zv (zff (zset σ 12 j 1) j (nI a)) 7 j || nI b == zv (zff (zset σ 12 j 1) j (nI a)) 8 j) = true := by rw [show zv (zff (zset σ 12 j 1) j (nI a)) 8 j = nI b from e8, Bool.or_eq_true]; exact Or.inr (beq_self_eq_true _)
      have hne := hI.ne78 hj
      refine zw_aload_n (v := .ref (ad 20 j 0)) (pc' := 28) K dX1_close_27 rfl rfl rfl ?_
      refine zw_iconst (v := 1) (pc' := 29) K dX1_close_28 (by decide) rfl ?_
      refine zp_X1_193 (v := .int 1) (pc' := 32) K (hW.c20 hj) rfl rfl (by simp) dX1_close_29 rfl ?_
      refine zw_nmM (fun M1 eM1 => ?_)
      have hW2 : zW (zw_Xw X) M1 ad (zset σ 12 j 1) μ th o := by
        have z := hW.q20 (σ' := zset σ 12 j 1) hj rfl rfl (fun _ => rfl) (fun _ => rfl) (fun v i h9 h12 => by rw [zset_v, if_neg (fun q => h12 q.1)]) (fun v i hi => by rw [zset_v, if_neg (fun q => hi q.2)])
        have e : zw_eC 4 [.ref (ad 21 j 0), .ref (ad 22 j 0), .ref (ad 23 j 0), .ref (ad 24 j 0), .ref (ad 25 j 0), .int (zv σ 9 j), .int 1] = zw_eC 4 [.ref (ad 21 j 0), .ref (ad 22 j 0), .ref (ad 23 j 0), .ref (ad 24 j 0), .ref (ad 25 j 0), .int (zv (zset σ 12 j 1) 9 j), .int (zv (zset σ 12 j 1) 12 j)] := by simp [zset_v, zsett_v]
        rw [← e] at z; rw [eM1]; exact z
      refine zw_aload_n (v := .ref (ad 0 0 0)) (pc' := 33) K dX1_close_32 rfl rfl rfl ?_
      refine zw_aload_n (v := .ref (ad 20 j 0)) (pc' := 34) K dX1_close_33 rfl rfl rfl ?_
      refine zw_aload_n (v := .ref (ad 20 j 0)) (pc' := 35) K dX1_close_34 rfl rfl rfl ?_
      refine zg_X1_184 (v := .ref (ad 21 j 0)) (pc' := 38) K (hW2.c20 hj) rfl dX1_close_35 rfl ?_
      refine zg_X1_217 (v := .int (zv (zset σ 12 j 1) 7 j)) (pc' := 41) K (hW2.c21 hj) rfl dX1_close_38 rfl ?_
      rw [show zv (zset σ 12 j 1) 7 j = nI a from e7]
      refine zc_X1_220 (rest := []) (c' := 3) (n' := 13) (pc' := 44) K (ct_X1_fineFor hl hW2 hI1 j a hj (by omega) hb1) hW2.c0 rfl rfl dX1_close_41 rfl (Nat.le_of_ble_eq_true rfl) ⟨Nat.le_of_ble_eq_true rfl, Nat.le_of_ble_eq_true rfl⟩ ⟨Nat.le_of_ble_eq_true rfl, Nat.le_of_ble_eq_true rfl, Nat.le_of_ble_eq_true rfl, Nat.le_of_ble_eq_true rfl⟩ (zw_ki fun r Ma h => ?_) zw_kn
      obtain ⟨hr, hW2⟩ := h
      subst hr
      refine zw_aload_n (v := .ref (ad 0 0 0)) (pc' := 45) K dX1_close_44 rfl rfl rfl ?_
      refine zw_aload_n (v := .ref (ad 20 j 0)) (pc' := 46) K dX1_close_45 rfl rfl rfl ?_
      refine zw_aload_n (v := .ref (ad 20 j 0)) (pc' := 47) K dX1_close_46 rfl rfl rfl ?_
      refine zg_X1_184 (v := .ref (ad 21 j 0)) (pc' := 50) K (hW2.c20 hj) rfl dX1_close_47 rfl ?_
      refine zg_X1_224 (v := .int (zv (zff (zset σ 12 j 1) j (nI a)) 8 j)) (pc' := 53) K (hW2.c21 hj) rfl dX1_close_50 rfl ?_
      rw [show zv (zff (zset σ 12 j 1) j (nI a)) 8 j = nI b from e8]
      refine zc_X1_220 (rest := [.int (zdue (zset σ 12 j 1) j (nI a) (zv (zset σ 12 j 1) 10 (zside (zset σ 12 j 1) j (nI a))))]) (c' := 4) (n' := 14) (pc' := 56) K (ct_X1_fineFor hl hW2 hI2 j b hj hb7 hb2) hW2.c0 rfl rfl dX1_close_53 rfl (Nat.le_of_ble_eq_true rfl) ⟨Nat.le_of_ble_eq_true rfl, Nat.le_of_ble_eq_true rfl⟩ ⟨Nat.le_of_ble_eq_true rfl, Nat.le_of_ble_eq_true rfl, Nat.le_of_ble_eq_true rfl, Nat.le_of_ble_eq_true rfl⟩ (zw_ki fun r Mb h => ?_) zw_kn
      obtain ⟨hr, hW3⟩ := h
      subst hr
      refine zw_iadd (pc' := 57) K dX1_close_56 rfl ?_
      have hsum : zdue σ j (nI a) (zv σ 10 (2 * j)) + zdue (zcl1 σ j) j (nI b) (zv σ 10 (2 * j + 1)) = zdue (zset σ 12 j 1) j (nI a) (zv (zset σ 12 j 1) 10 (zside (zset σ 12 j 1) j (nI a))) + zdue (zff (zset σ 12 j 1) j (nI a)) j (nI b) (zv (zff (zset σ 12 j 1) j (nI a)) 10 (zside (zff (zset σ 12 j 1) j (nI a)) j (nI b))) := by
        have s1 : zside (zset σ 12 j 1) j (nI a) = 2 * j := by rw [← e7]; exact zside_7 (σ := zset σ 12 j 1)
        have s2 : zside (zff (zset σ 12 j 1) j (nI a)) j (nI b) = 2 * j + 1 := by rw [← e8]; exact zside_8 (σ := zff (zset σ 12 j 1) j (nI a)) hne
        have s3 : zff (zset σ 12 j 1) j (nI a) = zset (zcl1 σ j) 12 j 1 := by rw [zff_12, ← e7, zff_7]
        rw [s1, s2, s3]; rfl
      exact zw_iret K hE dX1_close_57 ⟨Nat.le_of_ble_eq_true rfl, Nat.le_of_ble_eq_true rfl⟩ (zPo.mk (by unfold zop_close; rw [if_neg (by simp [h1]), zx_n (by have := hI.g; omega : j < 2 ^ 31), if_pos c16, ← zclose_eq hne, e7, e8]; exact congrArg (fun z => (z, (0 : Int32), zff (zff (zset σ 12 j 1) j (nI a)) j (nI b))) hsum) hW3.x)
  · obtain ⟨h0, h1, hM⟩ := h
    have hM := hM.symm
    subst h0; subst hM
    exact zw_out K hE htab ⟨Nat.le_of_ble_eq_true rfl, Nat.le_of_ble_eq_true rfl⟩ (zPx.mk 0 (c := 1) (by simp [zop_close, h1]) (by decide) rfl hW)
