/-! CartelWatch(), Inquiry(pair), fineOf -/
set_option maxRecDepth 100000
set_option maxHeartbeats 2000000 in
theorem ct_X1_init {w : zw_W} {l : Launch} (hl : l.stackTraces = false) (x0 : Nat) (M : zw_M) (a : Nat) (hM : M a = some (zw_eC 0 [.null, .null, .null, .int 0])) : zw_C w l yX1_init cX1_init 1 (Option.none : Option Jvm.ClassFile.FieldType) (zr 5 3 13) [.ref a] M (zw_pv fun M1 => ∃ q1 q9 q17 : Nat, zfb a (zw_eC 0 [.ref q1, .ref q9, .ref q17, .int 10]) M [(q17, zw_eI w 7 (fun _ => 0)), (q9, zw_eL 0 (fun _ => x0)), (q1, zw_eL 0 (fun _ => x0))] M1) zw_no := by
  refine zw_enter RX1 rfl (by decide) hl (by simp [Value.category]) (Nat.le_of_ble_eq_true rfl) (fun X hXl hXw K hE htab hcon => ?_)
  subst hXl; subst hXw
  show zw_Z X _ 0 0 0 [some (.ref a)] []
  have b0 := zfb.start hM
  refine zw_aload_n (v := .ref a) (pc' := 1) K dX1_init_0 rfl rfl rfl ?_
  refine zw_objInit (pc' := 4) K q51 q52 q53 dX1_init_1 rfl ⟨Nat.le_of_ble_eq_true rfl, Nat.le_of_ble_eq_true rfl⟩ ?_
  refine zw_aload_n (v := .ref a) (pc' := 5) K dX1_init_4 rfl rfl rfl ?_
  refine zw_new (c' := 1) (n' := 3) (pc' := 8) (fs := [.int 0, .null, .int 0]) K in_J2 (ci := 5) rfl tyJ2 tyJ2_ok q54 q55 q25 (by decide +kernel) ⟨Nat.le_of_ble_eq_true rfl, Nat.le_of_ble_eq_true rfl, Nat.le_of_ble_eq_true rfl, Nat.le_of_ble_eq_true rfl⟩ dX1_init_5 rfl (fun q1 hq1 => ?_)
  refine zw_nmM (fun M2 eM2 => ?_)
  have b3 : zfb a (zw_eC 0 [.null, .null, .null, .int 0]) M [(q1, zw_eC 5 [.int 0, .null, .int 0])] M2 := by rw [eM2]; exact b0.new hq1
  refine zw_dup (pc' := 9) K dX1_init_8 rfl rfl ?_
  have z4 : M2 q1 = some (zw_eC 5 [.int 0, .null, .int 0]) := (b3.2.2.1 (q1, _) List.mem_cons_self).2.2
  refine zc_X1_25 (rest := [.ref q1, .ref a]) (c' := 1) (n' := 3) (pc' := 12) K (ct_J2_init hl M2 q1 z4 (fun _ => x0)) rfl rfl dX1_init_9 rfl (Nat.le_of_ble_eq_true rfl) ⟨Nat.le_of_ble_eq_true rfl, Nat.le_of_ble_eq_true rfl⟩ ⟨Nat.le_of_ble_eq_true rfl, Nat.le_of_ble_eq_true rfl, Nat.le_of_ble_eq_true rfl, Nat.le_of_ble_eq_true rfl⟩ (zw_kv fun M1 h => ?_) zw_kn
  subst h
  refine zw_nmM (fun M5 eM5 => ?_)
  have b6 : zfb a (zw_eC 0 [.null, .null, .null, .int 0]) M [(q1, zw_eL 0 (fun _ => x0))] M5 := by rw [eM5]; exact b3.chg
  refine zp_X1_26 (v := .ref q1) (pc' := 15) K hcon b6.1 rfl rfl (by simp) dX1_init_12 rfl ?_
  refine zw_nmM (fun M7 eM7 => ?_)
  have b8 : zfb a (zw_eC 0 [.ref q1, .null, .null, .int 0]) M [(q1, zw_eL 0 (fun _ => x0))] M7 := by rw [eM7]; exact b6.put
  refine zw_aload_n (v := .ref a) (pc' := 16) K dX1_init_15 rfl rfl rfl ?_
  refine zw_new (c' := 2) (n' := 6) (pc' := 19) (fs := [.int 0, .null, .int 0]) K in_J2 (ci := 5) rfl tyJ2 tyJ2_ok q54 q55 q25 (by decide +kernel) ⟨Nat.le_of_ble_eq_true rfl, Nat.le_of_ble_eq_true rfl, Nat.le_of_ble_eq_true rfl, Nat.le_of_ble_eq_true rfl⟩ dX1_init_16 rfl (fun q9 hq9 => ?_)
  refine zw_nmM (fun M10 eM10 => ?_)
  have b11 : zfb a (zw_eC 0 [.ref q1, .null, .null, .int 0]) M [(q9, zw_eC 5 [.int 0, .null, .int 0]), (q1, zw_eL 0 (fun _ => x0))] M10 := by rw [eM10]; exact b8.new hq9
  refine zw_dup (pc' := 20) K dX1_init_19 rfl rfl ?_
  have z12 : M10 q9 = some (zw_eC 5 [.int 0, .null, .int 0]) := (b11.2.2.1 (q9, _) List.mem_cons_self).2.2
  refine zc_X1_25 (rest := [.ref q9, .ref a]) (c' := 2) (n' := 6) (pc' := 23) K (ct_J2_init hl M10 q9 z12 (fun _ => x0)) rfl rfl dX1_init_20 rfl (Nat.le_of_ble_eq_true rfl) ⟨Nat.le_of_ble_eq_true rfl, Nat.le_of_ble_eq_true rfl⟩ ⟨Nat.le_of_ble_eq_true rfl, Nat.le_of_ble_eq_true rfl, Nat.le_of_ble_eq_true rfl, Nat.le_of_ble_eq_true rfl⟩ (zw_kv fun M1 h => ?_) zw_kn
  subst h
  refine zw_nmM (fun M13 eM13 => ?_)
  have b14 : zfb a (zw_eC 0 [.ref q1, .null, .null, .int 0]) M [(q9, zw_eL 0 (fun _ => x0)), (q1, zw_eL 0 (fun _ => x0))] M13 := by rw [eM13]; exact b11.chg
  refine zp_X1_32 (v := .ref q9) (pc' := 26) K hcon b14.1 rfl rfl (by simp) dX1_init_23 rfl ?_
  refine zw_nmM (fun M15 eM15 => ?_)
  have b16 : zfb a (zw_eC 0 [.ref q1, .ref q9, .null, .int 0]) M [(q9, zw_eL 0 (fun _ => x0)), (q1, zw_eL 0 (fun _ => x0))] M15 := by rw [eM15]; exact b14.put
  refine zw_aload_n (v := .ref a) (pc' := 27) K dX1_init_26 rfl rfl rfl ?_
  refine zw_bipush (v := 7) (pc' := 29) K dX1_init_27 (by decide) rfl ?_
  refine zw_newa (atype := .int) (t0 := 0) (N' := 7) (a0 := (7, .inl (fun _ => 0))) (c' := 3) (n' := 13) (pc' := 31) K q93 rfl rfl (fun _ _ h => h) (fun _ => rfl) (by decide) (by decide) (by decide) ⟨Nat.le_of_ble_eq_true rfl, Nat.le_of_ble_eq_true rfl, Nat.le_of_ble_eq_true rfl, Nat.le_of_ble_eq_true rfl⟩ dX1_init_29 rfl (fun q17 hq17 => ?_)
  refine zw_nmM (fun M18 eM18 => ?_)
  have b19 : zfb a (zw_eC 0 [.ref q1, .ref q9, .null, .int 0]) M [(q17, zw_eI (zw_Xw X) 7 (fun _ => 0)), (q9, zw_eL 0 (fun _ => x0)), (q1, zw_eL 0 (fun _ => x0))] M18 := by rw [eM18]; exact b16.new hq17
  refine zp_X1_35 (v := .ref q17) (pc' := 34) K hcon b19.1 rfl rfl (by simp) dX1_init_31 rfl ?_
  refine zw_nmM (fun M20 eM20 => ?_)
  have b21 : zfb a (zw_eC 0 [.ref q1, .ref q9, .ref q17, .int 0]) M [(q17, zw_eI (zw_Xw X) 7 (fun _ => 0)), (q9, zw_eL 0 (fun _ => x0)), (q1, zw_eL 0 (fun _ => x0))] M20 := by rw [eM20]; exact b19.put
  refine zw_aload_n (v := .ref a) (pc' := 35) K dX1_init_34 rfl rfl rfl ?_
  refine zw_bipush (v := 10) (pc' := 37) K dX1_init_35 (by decide) rfl ?_
  refine zp_X1_39 (v := .int 10) (pc' := 40) K b21.1 rfl rfl (by simp) dX1_init_37 rfl ?_
  refine zw_nmM (fun M22 eM22 => ?_)
  have b23 : zfb a (zw_eC 0 [.ref q1, .ref q9, .ref q17, .int 10]) M [(q17, zw_eI (zw_Xw X) 7 (fun _ => 0)), (q9, zw_eL 0 (fun _ => x0)), (q1, zw_eL 0 (fun _ => x0))] M22 := by rw [eM22]; exact b21.put
  exact zw_vret K hE dX1_init_40 ⟨Nat.le_of_ble_eq_true rfl, Nat.le_of_ble_eq_true rfl⟩ (⟨q1, q9, q17, b23⟩)
set_option maxHeartbeats 2000000 in
theorem ct_X6_init {w : zw_W} {l : Launch} (hl : l.stackTraces = false) (x0 : Nat) (M : zw_M) (a p : Nat) (hM : M a = some (zw_eC 4 [.null, .null, .null, .null, .null, .int 0, .int 0])) : zw_C w l yX6_init cX6_init 2 (Option.none : Option Jvm.ClassFile.FieldType) (zr 5 4 20) [.ref a, .ref p] M (zw_pv fun M1 => ∃ q1 q9 q17 q22 : Nat, zfb a (zw_eC 4 [.ref p, .ref q1, .ref q9, .ref q17, .ref q22, .int (-1), .int 0]) M [(q22, zw_eI w 7 (fun _ => 0)), (q17, zw_eI w 7 (fun _ => 0)), (q9, zw_eL 0 (fun _ => x0)), (q1, zw_eL 0 (fun _ => x0))] M1) zw_no := by
  refine zw_enter RX6 rfl (by decide) hl (by simp [Value.category]) (Nat.le_of_ble_eq_true rfl) (fun X hXl hXw K hE htab hcon => ?_)
  subst hXl; subst hXw
  show zw_Z X _ 0 0 0 [some (.ref a), some (.ref p)] []
  have b0 := zfb.start hM
  refine zw_aload_n (v := .ref a) (pc' := 1) K dX6_init_0 rfl rfl rfl ?_
  refine zw_objInit (pc' := 4) K q541 q52 q53 dX6_init_1 rfl ⟨Nat.le_of_ble_eq_true rfl, Nat.le_of_ble_eq_true rfl⟩ ?_
  refine zw_aload_n (v := .ref a) (pc' := 5) K dX6_init_4 rfl rfl rfl ?_
  refine zw_new (c' := 1) (n' := 3) (pc' := 8) (fs := [.int 0, .null, .int 0]) K in_J2 (ci := 5) rfl tyJ2 tyJ2_ok q542 q55 q25 (by decide +kernel) ⟨Nat.le_of_ble_eq_true rfl, Nat.le_of_ble_eq_true rfl, Nat.le_of_ble_eq_true rfl, Nat.le_of_ble_eq_true rfl⟩ dX6_init_5 rfl (fun q1 hq1 => ?_)
  refine zw_nmM (fun M2 eM2 => ?_)
  have b3 : zfb a (zw_eC 4 [.null, .null, .null, .null, .null, .int 0, .int 0]) M [(q1, zw_eC 5 [.int 0, .null, .int 0])] M2 := by rw [eM2]; exact b0.new hq1
  refine zw_dup (pc' := 9) K dX6_init_8 rfl rfl ?_
  have z4 : M2 q1 = some (zw_eC 5 [.int 0, .null, .int 0]) := (b3.2.2.1 (q1, _) List.mem_cons_self).2.2
  refine zc_X6_11 (rest := [.ref q1, .ref a]) (c' := 1) (n' := 3) (pc' := 12) K (ct_J2_init hl M2 q1 z4 (fun _ => x0)) rfl rfl dX6_init_9 rfl (Nat.le_of_ble_eq_true rfl) ⟨Nat.le_of_ble_eq_true rfl, Nat.le_of_ble_eq_true rfl⟩ ⟨Nat.le_of_ble_eq_true rfl, Nat.le_of_ble_eq_true rfl, Nat.le_of_ble_eq_true rfl, Nat.le_of_ble_eq_true rfl⟩ (zw_kv fun M1 h => ?_) zw_kn
  subst h
  refine zw_nmM (fun M5 eM5 => ?_)
  have b6 : zfb a (zw_eC 4 [.null, .null, .null, .null, .null, .int 0, .int 0]) M [(q1, zw_eL 0 (fun _ => x0))] M5 := by rw [eM5]; exact b3.chg
  refine zp_X6_12 (v := .ref q1) (pc' := 15) K hcon b6.1 rfl rfl (by simp) dX6_init_12 rfl ?_
  refine zw_nmM (fun M7 eM7 => ?_)
  have b8 : zfb a (zw_eC 4 [.null, .ref q1, .null, .null, .null, .int 0, .int 0]) M [(q1, zw_eL 0 (fun _ => x0))] M7 := by rw [eM7]; exact b6.put
  refine zw_aload_n (v := .ref a) (pc' := 16) K dX6_init_15 rfl rfl rfl ?_
  refine zw_new (c' := 2) (n' := 6) (pc' := 19) (fs := [.int 0, .null, .int 0]) K in_J2 (ci := 5) rfl tyJ2 tyJ2_ok q542 q55 q25 (by decide +kernel) ⟨Nat.le_of_ble_eq_true rfl, Nat.le_of_ble_eq_true rfl, Nat.le_of_ble_eq_true rfl, Nat.le_of_ble_eq_true rfl⟩ dX6_init_16 rfl (fun q9 hq9 => ?_)
  refine zw_nmM (fun M10 eM10 => ?_)
  have b11 : zfb a (zw_eC 4 [.null, .ref q1, .null, .null, .null, .int 0, .int 0]) M [(q9, zw_eC 5 [.int 0, .null, .int 0]), (q1, zw_eL 0 (fun _ => x0))] M10 := by rw [eM10]; exact b8.new hq9
  refine zw_dup (pc' := 20) K dX6_init_19 rfl rfl ?_
  have z12 : M10 q9 = some (zw_eC 5 [.int 0, .null, .int 0]) := (b11.2.2.1 (q9, _) List.mem_cons_self).2.2
  refine zc_X6_11 (rest := [.ref q9, .ref a]) (c' := 2) (n' := 6) (pc' := 23) K (ct_J2_init hl M10 q9 z12 (fun _ => x0)) rfl rfl dX6_init_20 rfl (Nat.le_of_ble_eq_true rfl) ⟨Nat.le_of_ble_eq_true rfl, Nat.le_of_ble_eq_true rfl⟩ ⟨Nat.le_of_ble_eq_true rfl, Nat.le_of_ble_eq_true rfl, Nat.le_of_ble_eq_true rfl, Nat.le_of_ble_eq_true rfl⟩ (zw_kv fun M1 h => ?_) zw_kn
  subst h
  refine zw_nmM (fun M13 eM13 => ?_)
  have b14 : zfb a (zw_eC 4 [.null, .ref q1, .null, .null, .null, .int 0, .int 0]) M [(q9, zw_eL 0 (fun _ => x0)), (q1, zw_eL 0 (fun _ => x0))] M13 := by rw [eM13]; exact b11.chg
  refine zp_X6_18 (v := .ref q9) (pc' := 26) K hcon b14.1 rfl rfl (by simp) dX6_init_23 rfl ?_
  refine zw_nmM (fun M15 eM15 => ?_)
  have b16 : zfb a (zw_eC 4 [.null, .ref q1, .ref q9, .null, .null, .int 0, .int 0]) M [(q9, zw_eL 0 (fun _ => x0)), (q1, zw_eL 0 (fun _ => x0))] M15 := by rw [eM15]; exact b14.put
  refine zw_aload_n (v := .ref a) (pc' := 27) K dX6_init_26 rfl rfl rfl ?_
  refine zw_bipush (v := 7) (pc' := 29) K dX6_init_27 (by decide) rfl ?_
  refine zw_newa (atype := .int) (t0 := 0) (N' := 7) (a0 := (7, .inl (fun _ => 0))) (c' := 3) (n' := 13) (pc' := 31) K q93 rfl rfl (fun _ _ h => h) (fun _ => rfl) (by decide) (by decide) (by decide) ⟨Nat.le_of_ble_eq_true rfl, Nat.le_of_ble_eq_true rfl, Nat.le_of_ble_eq_true rfl, Nat.le_of_ble_eq_true rfl⟩ dX6_init_29 rfl (fun q17 hq17 => ?_)
  refine zw_nmM (fun M18 eM18 => ?_)
  have b19 : zfb a (zw_eC 4 [.null, .ref q1, .ref q9, .null, .null, .int 0, .int 0]) M [(q17, zw_eI (zw_Xw X) 7 (fun _ => 0)), (q9, zw_eL 0 (fun _ => x0)), (q1, zw_eL 0 (fun _ => x0))] M18 := by rw [eM18]; exact b16.new hq17
  refine zp_X6_21 (v := .ref q17) (pc' := 34) K hcon b19.1 rfl rfl (by simp) dX6_init_31 rfl ?_
  refine zw_nmM (fun M20 eM20 => ?_)
  have b21 : zfb a (zw_eC 4 [.null, .ref q1, .ref q9, .ref q17, .null, .int 0, .int 0]) M [(q17, zw_eI (zw_Xw X) 7 (fun _ => 0)), (q9, zw_eL 0 (fun _ => x0)), (q1, zw_eL 0 (fun _ => x0))] M20 := by rw [eM20]; exact b19.put
  refine zw_aload_n (v := .ref a) (pc' := 35) K dX6_init_34 rfl rfl rfl ?_
  refine zw_bipush (v := 7) (pc' := 37) K dX6_init_35 (by decide) rfl ?_
  refine zw_newa (atype := .int) (t0 := 0) (N' := 7) (a0 := (7, .inl (fun _ => 0))) (c' := 4) (n' := 20) (pc' := 39) K q93 rfl rfl (fun _ _ h => h) (fun _ => rfl) (by decide) (by decide) (by decide) ⟨Nat.le_of_ble_eq_true rfl, Nat.le_of_ble_eq_true rfl, Nat.le_of_ble_eq_true rfl, Nat.le_of_ble_eq_true rfl⟩ dX6_init_37 rfl (fun q22 hq22 => ?_)
  refine zw_nmM (fun M23 eM23 => ?_)
  have b24 : zfb a (zw_eC 4 [.null, .ref q1, .ref q9, .ref q17, .null, .int 0, .int 0]) M [(q22, zw_eI (zw_Xw X) 7 (fun _ => 0)), (q17, zw_eI (zw_Xw X) 7 (fun _ => 0)), (q9, zw_eL 0 (fun _ => x0)), (q1, zw_eL 0 (fun _ => x0))] M23 := by rw [eM23]; exact b21.new hq22
  refine zp_X6_25 (v := .ref q22) (pc' := 42) K hcon b24.1 rfl rfl (by simp) dX6_init_39 rfl ?_
  refine zw_nmM (fun M25 eM25 => ?_)
  have b26 : zfb a (zw_eC 4 [.null, .ref q1, .ref q9, .ref q17, .ref q22, .int 0, .int 0]) M [(q22, zw_eI (zw_Xw X) 7 (fun _ => 0)), (q17, zw_eI (zw_Xw X) 7 (fun _ => 0)), (q9, zw_eL 0 (fun _ => x0)), (q1, zw_eL 0 (fun _ => x0))] M25 := by rw [eM25]; exact b24.put
  refine zw_aload_n (v := .ref a) (pc' := 43) K dX6_init_42 rfl rfl rfl ?_
  refine zw_iconst (v := (-1)) (pc' := 44) K dX6_init_43 (by decide) rfl ?_
  refine zp_X6_28 (v := .int (-1)) (pc' := 47) K b26.1 rfl rfl (by simp) dX6_init_44 rfl ?_
  refine zw_nmM (fun M27 eM27 => ?_)
  have b28 : zfb a (zw_eC 4 [.null, .ref q1, .ref q9, .ref q17, .ref q22, .int (-1), .int 0]) M [(q22, zw_eI (zw_Xw X) 7 (fun _ => 0)), (q17, zw_eI (zw_Xw X) 7 (fun _ => 0)), (q9, zw_eL 0 (fun _ => x0)), (q1, zw_eL 0 (fun _ => x0))] M27 := by rw [eM27]; exact b26.put
  refine zw_aload_n (v := .ref a) (pc' := 48) K dX6_init_47 rfl rfl rfl ?_
  refine zw_aload_n (v := .ref p) (pc' := 49) K dX6_init_48 rfl rfl rfl ?_
  refine zp_X6_32 (v := .ref p) (pc' := 52) K hcon b28.1 rfl rfl (by simp) dX6_init_49 rfl ?_
  refine zw_nmM (fun M29 eM29 => ?_)
  have b30 : zfb a (zw_eC 4 [.ref p, .ref q1, .ref q9, .ref q17, .ref q22, .int (-1), .int 0]) M [(q22, zw_eI (zw_Xw X) 7 (fun _ => 0)), (q17, zw_eI (zw_Xw X) 7 (fun _ => 0)), (q9, zw_eL 0 (fun _ => x0)), (q1, zw_eL 0 (fun _ => x0))] M29 := by rw [eM29]; exact b28.put
  exact zw_vret K hE dX6_init_52 ⟨Nat.le_of_ble_eq_true rfl, Nat.le_of_ble_eq_true rfl⟩ (⟨q1, q9, q17, q22, b30⟩)
set_option maxHeartbeats 2000000 in
theorem ct_X6_fineOf {w : zw_W} {l : Launch} (hl : l.stackTraces = false) (M : zw_M) (a j : Nat) (tu : Int32) {p ms ts tl fi n : Nat} {fst cl : Int32} {el : Nat → Nat} {f : Nat → Int32} (hA : M a = some (zw_eC 4 [.ref p, .ref ms, .ref ts, .ref tl, .ref fi, .int fst, .int cl])) (hL : M ms = some (zw_eL n el)) (hT : M tl = some (zw_eI w 7 f)) (hj : j < 7) : zw_C w l yX6_fineOf cX6_fineOf 4 (Option.some Jvm.ClassFile.FieldType.int) (zr 2 0 0) [.ref a, .int (nI j), .int tu] M (zw_pi fun r M1 => r = (if nI j = fst then (if nI n ≤ 2 * f j then 0 else tu / 10 / 2) else (if 0 < f j then tu / 10 - tu / 10 / 4 else tu / 10)) ∧ M1 = M) zw_no := by
  refine zw_enter RX6 rfl (by decide) hl (by simp [Value.category]) (Nat.le_of_ble_eq_true rfl) (fun X hXl hXw K hE htab hcon => ?_)
  subst hXl; subst hXw
  show zw_Z X _ 0 0 0 [some (.ref a), some (.int (nI j)), some (.int tu), none] []
  refine zw_iload_n (x := tu) (pc' := 1) K dX6_fineOf_0 rfl rfl ?_
  refine zw_bipush (v := 10) (pc' := 3) K dX6_fineOf_1 (by decide) rfl ?_
  refine zw_idiv (pc' := 4) K dX6_fineOf_3 (by decide) rfl ?_
  refine zw_istore_n (lv' := [some (.ref a), some (.int (nI j)), some (.int tu), some (.int (tu / 10))]) (pc' := 5) K dX6_fineOf_4 (by decide) rfl rfl ?_
  refine zw_iload_n (x := nI j) (pc' := 6) K dX6_fineOf_5 rfl rfl ?_
  refine zw_aload_n (v := .ref a) (pc' := 7) K dX6_fineOf_6 rfl rfl rfl ?_
  refine zg_X6_28 (v := .int fst) (pc' := 10) K hA rfl dX6_fineOf_7 rfl ?_
  refine zw_icmp_ne (tgt := 41) (pc' := 13) K dX6_fineOf_10 (by decide) rfl (fun c10 => ?_) (fun c10 => ?_)
  · refine zw_aload_n (v := .ref a) (pc' := 42) K dX6_fineOf_41 rfl rfl rfl ?_
    refine zg_X6_21 (v := .ref tl) (pc' := 45) K hA rfl dX6_fineOf_42 rfl ?_
    refine zw_iload_n (x := nI j) (pc' := 46) K dX6_fineOf_45 rfl rfl ?_
    refine zn_iald (j := j) (v := (f j)) (pc' := 47) K hT rfl (by omega) rfl dX6_fineOf_46 rfl ?_
    refine zw_if_le (tgt := 58) (pc' := 50) K dX6_fineOf_47 (by decide) rfl (fun c47 => ?_) (fun c47 => ?_)
    · refine zw_iload_n (x := tu / 10) (pc' := 59) K dX6_fineOf_58 rfl rfl ?_
      exact zw_iret K hE dX6_fineOf_59 ⟨Nat.le_of_ble_eq_true rfl, Nat.le_of_ble_eq_true rfl⟩ (⟨by simp [c10, Int32.not_lt.mpr c47], rfl⟩)
    · refine zw_iload_n (x := tu / 10) (pc' := 51) K dX6_fineOf_50 rfl rfl ?_
      refine zw_iload_n (x := tu / 10) (pc' := 52) K dX6_fineOf_51 rfl rfl ?_
      refine zw_iconst (v := 4) (pc' := 53) K dX6_fineOf_52 (by decide) rfl ?_
      refine zw_idiv (pc' := 54) K dX6_fineOf_53 (by decide) rfl ?_
      refine zw_isub (pc' := 55) K dX6_fineOf_54 rfl ?_
      refine zw_goto (tgt := 59) K dX6_fineOf_55 (by decide) ?_
      exact zw_iret K hE dX6_fineOf_59 ⟨Nat.le_of_ble_eq_true rfl, Nat.le_of_ble_eq_true rfl⟩ (⟨by simp [c10, c47], rfl⟩)
  · refine zw_iconst (v := 2) (pc' := 14) K dX6_fineOf_13 (by decide) rfl ?_
    refine zw_aload_n (v := .ref a) (pc' := 15) K dX6_fineOf_14 rfl rfl rfl ?_
    refine zg_X6_21 (v := .ref tl) (pc' := 18) K hA rfl dX6_fineOf_15 rfl ?_
    refine zw_iload_n (x := nI j) (pc' := 19) K dX6_fineOf_18 rfl rfl ?_
    refine zn_iald (j := j) (v := (f j)) (pc' := 20) K hT rfl (by omega) rfl dX6_fineOf_19 rfl ?_
    refine zw_imul (pc' := 21) K dX6_fineOf_20 rfl ?_
    refine zw_aload_n (v := .ref a) (pc' := 22) K dX6_fineOf_21 rfl rfl rfl ?_
    refine zg_X6_12 (v := .ref ms) (pc' := 25) K hA rfl dX6_fineOf_22 rfl ?_
    refine zc_X6_36 (rest := [.int (2 * (f j))]) (c' := 0) (n' := 0) (pc' := 30) K (ct_J2_size hl M ms hL) hL rfl rfl dX6_fineOf_25 rfl (Nat.le_of_ble_eq_true rfl) ⟨Nat.le_of_ble_eq_true rfl, Nat.le_of_ble_eq_true rfl⟩ ⟨Nat.le_of_ble_eq_true rfl, Nat.le_of_ble_eq_true rfl, Nat.le_of_ble_eq_true rfl, Nat.le_of_ble_eq_true rfl⟩ (zw_kp ?_) zw_kn
    refine zw_icmp_lt (tgt := 37) (pc' := 33) K dX6_fineOf_30 (by decide) rfl (fun c30 => ?_) (fun c30 => ?_)
    · refine zw_iload_n (x := tu / 10) (pc' := 38) K dX6_fineOf_37 rfl rfl ?_
      refine zw_iconst (v := 2) (pc' := 39) K dX6_fineOf_38 (by decide) rfl ?_
      refine zw_idiv (pc' := 40) K dX6_fineOf_39 (by decide) rfl ?_
      exact zw_iret K hE dX6_fineOf_40 ⟨Nat.le_of_ble_eq_true rfl, Nat.le_of_ble_eq_true rfl⟩ (⟨by simp [c10, Int32.not_le.mpr c30], rfl⟩)
    · refine zw_iconst (v := 0) (pc' := 34) K dX6_fineOf_33 (by decide) rfl ?_
      refine zw_goto (tgt := 40) K dX6_fineOf_34 (by decide) ?_
      exact zw_iret K hE dX6_fineOf_40 ⟨Nat.le_of_ble_eq_true rfl, Nat.le_of_ble_eq_true rfl⟩ (⟨by simp [c10, c30], rfl⟩)
