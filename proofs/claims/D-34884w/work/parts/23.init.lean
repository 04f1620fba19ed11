/-! blocks of new cells; the constructor of the model -/
set_option maxRecDepth 100000
/-- a has become x, the cells L are new, what there was is kept -/
def zfb (a : Nat) (x : zw_En) (M : zw_M) (L : List (Nat × zw_En)) (M1 : zw_M) : Prop :=
  M1 a = some x ∧ (∀ b e, b ≠ a → M b = some e → M1 b = some e) ∧ (∀ p ∈ L, M p.1 = none ∧ p.1 ≠ a ∧ M1 p.1 = some p.2) ∧ (L.map Prod.fst).Nodup
theorem zfb.start {a : Nat} {x : zw_En} {M : zw_M} (h : M a = some x) : zfb a x M [] M := ⟨h, fun _ _ _ h => h, (fun _ h => absurd h List.not_mem_nil), List.nodup_nil⟩
theorem zfb.put {a : Nat} {x x' : zw_En} {M M1 : zw_M} {L : List (Nat × zw_En)} (h : zfb a x M L M1) : zfb a x' M L (zw_u M1 a x') :=
  ⟨zw_us, fun b e hb he => zw_un' hb (h.2.1 b e hb he), fun p hp => ⟨(h.2.2.1 p hp).1, (h.2.2.1 p hp).2.1, zw_un' (h.2.2.1 p hp).2.1 (h.2.2.1 p hp).2.2⟩, h.2.2.2⟩
theorem zfb.new {a q : Nat} {x e : zw_En} {M M1 : zw_M} {L : List (Nat × zw_En)} (h : zfb a x M L M1) (hq : M1 q = none) : zfb a x M ((q, e) :: L) (zw_u M1 q e) := by
  have hqa : a ≠ q := zw_nn h.1 hq
  have hne : ∀ p ∈ L, p.1 ≠ q := fun p hp => zw_nn (h.2.2.1 p hp).2.2 hq
  refine ⟨zw_un' hqa h.1, fun b e' hb he => ?_, fun p hp => ?_, ?_⟩
  · have := h.2.1 b e' hb he
    exact zw_un' (zw_nn this hq) this
  · rcases List.mem_cons.mp hp with rfl | hp
    · refine ⟨?_, Ne.symm hqa, zw_us⟩
      cases hM : M q with
      | none => rfl
      | some e' => have := h.2.1 q e' (Ne.symm hqa) hM; rw [hq] at this; cases this
    · exact ⟨(h.2.2.1 p hp).1, (h.2.2.1 p hp).2.1, zw_un' (hne p hp) (h.2.2.1 p hp).2.2⟩
  · rw [List.map_cons, List.nodup_cons]
    refine ⟨fun hm => ?_, h.2.2.2⟩
    obtain ⟨p, hp, he⟩ := List.mem_map.mp hm
    exact hne p hp he
theorem zfb.chg {a q : Nat} {x e e' : zw_En} {M M1 : zw_M} {L : List (Nat × zw_En)} (h : zfb a x M ((q, e) :: L) M1) : zfb a x M ((q, e') :: L) (zw_u M1 q e') := by
  have hq := h.2.2.1 (q, e) List.mem_cons_self
  have hnd : q ∉ L.map Prod.fst := (List.nodup_cons.mp h.2.2.2).1
  have hne : ∀ p ∈ L, p.1 ≠ q := fun p hp z => hnd (List.mem_map.mpr ⟨p, hp, z⟩)
  refine ⟨zw_un' (Ne.symm hq.2.1) h.1, fun b e2 hb he => ?_, fun p hp => ?_, h.2.2.2⟩
  · exact zw_un' (fun z => by subst z; rw [hq.1] at he; cases he) (h.2.1 b e2 hb he)
  · rcases List.mem_cons.mp hp with rfl | hp
    · exact ⟨hq.1, hq.2.1, zw_us⟩
    · have := h.2.2.1 p (List.mem_cons_of_mem _ hp)
      exact ⟨this.1, this.2.1, zw_un' (hne p hp) this.2.2⟩

set_option maxHeartbeats 2000000 in
theorem ct_X2_init {w : zw_W} {l : Launch} (hl : l.stackTraces = false) (M : zw_M) (a : Nat) (hM : M a = some (zw_eC 6 [.int 0, .int 0, .null, .null, .null, .null, .null, .null, .int 0, .int 0, .null, .null, .null, .null, .null, .null, .null, .null, .null])) : zw_C w l yX2_init cX2_init 1 (Option.none : Option Jvm.ClassFile.FieldType) (zr 2 15 747) [.ref a] M (zw_pv fun M1 => ∃ q1 q6 q11 q16 q21 q26 q33 q38 q43 q48 q53 q58 q63 q68 q73 : Nat, zfb a (zw_eC 6 [.int 0, .int 0, .ref q1, .ref q6, .ref q11, .ref q16, .ref q21, .ref q26, .int 10, .int 0, .ref q33, .ref q38, .ref q43, .ref q48, .ref q53, .ref q58, .ref q63, .ref q68, .ref q73]) M [(q73, zw_eI w 7 (fun _ => 0)), (q68, zw_eZ w 20 (fun _ => 0)), (q63, zw_eI w 40 (fun _ => 0)), (q58, zw_eI w 40 (fun _ => 0)), (q53, zw_eI w 20 (fun _ => 0)), (q48, zw_eI w 20 (fun _ => 0)), (q43, zw_eI w 20 (fun _ => 0)), (q38, zw_eI w 20 (fun _ => 0)), (q33, zw_eI w 20 (fun _ => 0)), (q26, zw_eZ w 210 (fun _ => 0)), (q21, zw_eI w 210 (fun _ => 0)), (q16, zw_eI w 30 (fun _ => 0)), (q11, zw_eI w 30 (fun _ => 0)), (q6, zw_eI w 30 (fun _ => 0)), (q1, zw_eI w 30 (fun _ => 0))] M1) zw_no := by
  refine zw_enter RX2 rfl (by decide) hl (by simp [Value.category]) (Nat.le_of_ble_eq_true rfl) (fun X hXl hXw K hE htab hcon => ?_)
  subst hXl; subst hXw
  show zw_Z X _ 0 0 0 [some (.ref a)] []
  have b0 := zfb.start hM
  refine zw_aload_n (v := .ref a) (pc' := 1) K dX2_init_0 rfl rfl rfl ?_
  refine zw_objInit (pc' := 4) K q675 q52 q53 dX2_init_1 rfl ⟨Nat.le_of_ble_eq_true rfl, Nat.le_of_ble_eq_true rfl⟩ ?_
  refine zw_aload_n (v := .ref a) (pc' := 5) K dX2_init_4 rfl rfl rfl ?_
  refine zw_bipush (v := 30) (pc' := 7) K dX2_init_5 (by decide) rfl ?_
  refine zw_newa (atype := .int) (t0 := 0) (N' := 30) (a0 := (30, .inl (fun _ => 0))) (c' := 1) (n' := 30) (pc' := 9) K q93 rfl rfl (fun _ _ h => h) (fun _ => rfl) (by decide) (by decide) (by decide) ⟨Nat.le_of_ble_eq_true rfl, Nat.le_of_ble_eq_true rfl, Nat.le_of_ble_eq_true rfl, Nat.le_of_ble_eq_true rfl⟩ dX2_init_7 rfl (fun q1 hq1 => ?_)
  refine zw_nmM (fun M2 eM2 => ?_)
  have b3 : zfb a (zw_eC 6 [.int 0, .int 0, .null, .null, .null, .null, .null, .null, .int 0, .int 0, .null, .null, .null, .null, .null, .null, .null, .null, .null]) M [(q1, zw_eI (zw_Xw X) 30 (fun _ => 0))] M2 := by rw [eM2]; exact b0.new hq1
  refine zp_X2_7 (v := .ref q1) (pc' := 12) K hcon b3.1 rfl rfl (by simp) dX2_init_9 rfl ?_
  refine zw_nmM (fun M4 eM4 => ?_)
  have b5 : zfb a (zw_eC 6 [.int 0, .int 0, .ref q1, .null, .null, .null, .null, .null, .int 0, .int 0, .null, .null, .null, .null, .null, .null, .null, .null, .null]) M [(q1, zw_eI (zw_Xw X) 30 (fun _ => 0))] M4 := by rw [eM4]; exact b3.put
  refine zw_aload_n (v := .ref a) (pc' := 13) K dX2_init_12 rfl rfl rfl ?_
  refine zw_bipush (v := 30) (pc' := 15) K dX2_init_13 (by decide) rfl ?_
  refine zw_newa (atype := .int) (t0 := 0) (N' := 30) (a0 := (30, .inl (fun _ => 0))) (c' := 2) (n' := 60) (pc' := 17) K q93 rfl rfl (fun _ _ h => h) (fun _ => rfl) (by decide) (by decide) (by decide) ⟨Nat.le_of_ble_eq_true rfl, Nat.le_of_ble_eq_true rfl, Nat.le_of_ble_eq_true rfl, Nat.le_of_ble_eq_true rfl⟩ dX2_init_15 rfl (fun q6 hq6 => ?_)
  refine zw_nmM (fun M7 eM7 => ?_)
  have b8 : zfb a (zw_eC 6 [.int 0, .int 0, .ref q1, .null, .null, .null, .null, .null, .int 0, .int 0, .null, .null, .null, .null, .null, .null, .null, .null, .null]) M [(q6, zw_eI (zw_Xw X) 30 (fun _ => 0)), (q1, zw_eI (zw_Xw X) 30 (fun _ => 0))] M7 := by rw [eM7]; exact b5.new hq6
  refine zp_X2_13 (v := .ref q6) (pc' := 20) K hcon b8.1 rfl rfl (by simp) dX2_init_17 rfl ?_
  refine zw_nmM (fun M9 eM9 => ?_)
  have b10 : zfb a (zw_eC 6 [.int 0, .int 0, .ref q1, .ref q6, .null, .null, .null, .null, .int 0, .int 0, .null, .null, .null, .null, .null, .null, .null, .null, .null]) M [(q6, zw_eI (zw_Xw X) 30 (fun _ => 0)), (q1, zw_eI (zw_Xw X) 30 (fun _ => 0))] M9 := by rw [eM9]; exact b8.put
  refine zw_aload_n (v := .ref a) (pc' := 21) K dX2_init_20 rfl rfl rfl ?_
  refine zw_bipush (v := 30) (pc' := 23) K dX2_init_21 (by decide) rfl ?_
  refine zw_newa (atype := .int) (t0 := 0) (N' := 30) (a0 := (30, .inl (fun _ => 0))) (c' := 3) (n' := 90) (pc' := 25) K q93 rfl rfl (fun _ _ h => h) (fun _ => rfl) (by decide) (by decide) (by decide) ⟨Nat.le_of_ble_eq_true rfl, Nat.le_of_ble_eq_true rfl, Nat.le_of_ble_eq_true rfl, Nat.le_of_ble_eq_true rfl⟩ dX2_init_23 rfl (fun q11 hq11 => ?_)
  refine zw_nmM (fun M12 eM12 => ?_)
  have b13 : zfb a (zw_eC 6 [.int 0, .int 0, .ref q1, .ref q6, .null, .null, .null, .null, .int 0, .int 0, .null, .null, .null, .null, .null, .null, .null, .null, .null]) M [(q11, zw_eI (zw_Xw X) 30 (fun _ => 0)), (q6, zw_eI (zw_Xw X) 30 (fun _ => 0)), (q1, zw_eI (zw_Xw X) 30 (fun _ => 0))] M12 := by rw [eM12]; exact b10.new hq11
  refine zp_X2_16 (v := .ref q11) (pc' := 28) K hcon b13.1 rfl rfl (by simp) dX2_init_25 rfl ?_
  refine zw_nmM (fun M14 eM14 => ?_)
  have b15 : zfb a (zw_eC 6 [.int 0, .int 0, .ref q1, .ref q6, .ref q11, .null, .null, .null, .int 0, .int 0, .null, .null, .null, .null, .null, .null, .null, .null, .null]) M [(q11, zw_eI (zw_Xw X) 30 (fun _ => 0)), (q6, zw_eI (zw_Xw X) 30 (fun _ => 0)), (q1, zw_eI (zw_Xw X) 30 (fun _ => 0))] M14 := by rw [eM14]; exact b13.put
  refine zw_aload_n (v := .ref a) (pc' := 29) K dX2_init_28 rfl rfl rfl ?_
  refine zw_bipush (v := 30) (pc' := 31) K dX2_init_29 (by decide) rfl ?_
  refine zw_newa (atype := .int) (t0 := 0) (N' := 30) (a0 := (30, .inl (fun _ => 0))) (c' := 4) (n' := 120) (pc' := 33) K q93 rfl rfl (fun _ _ h => h) (fun _ => rfl) (by decide) (by decide) (by decide) ⟨Nat.le_of_ble_eq_true rfl, Nat.le_of_ble_eq_true rfl, Nat.le_of_ble_eq_true rfl, Nat.le_of_ble_eq_true rfl⟩ dX2_init_31 rfl (fun q16 hq16 => ?_)
  refine zw_nmM (fun M17 eM17 => ?_)
  have b18 : zfb a (zw_eC 6 [.int 0, .int 0, .ref q1, .ref q6, .ref q11, .null, .null, .null, .int 0, .int 0, .null, .null, .null, .null, .null, .null, .null, .null, .null]) M [(q16, zw_eI (zw_Xw X) 30 (fun _ => 0)), (q11, zw_eI (zw_Xw X) 30 (fun _ => 0)), (q6, zw_eI (zw_Xw X) 30 (fun _ => 0)), (q1, zw_eI (zw_Xw X) 30 (fun _ => 0))] M17 := by rw [eM17]; exact b15.new hq16
  refine zp_X2_19 (v := .ref q16) (pc' := 36) K hcon b18.1 rfl rfl (by simp) dX2_init_33 rfl ?_
  refine zw_nmM (fun M19 eM19 => ?_)
  have b20 : zfb a (zw_eC 6 [.int 0, .int 0, .ref q1, .ref q6, .ref q11, .ref q16, .null, .null, .int 0, .int 0, .null, .null, .null, .null, .null, .null, .null, .null, .null]) M [(q16, zw_eI (zw_Xw X) 30 (fun _ => 0)), (q11, zw_eI (zw_Xw X) 30 (fun _ => 0)), (q6, zw_eI (zw_Xw X) 30 (fun _ => 0)), (q1, zw_eI (zw_Xw X) 30 (fun _ => 0))] M19 := by rw [eM19]; exact b18.put
  refine zw_aload_n (v := .ref a) (pc' := 37) K dX2_init_36 rfl rfl rfl ?_
  refine zw_sipush (v := 210) (pc' := 40) K dX2_init_37 (by decide) rfl ?_
  refine zw_newa (atype := .int) (t0 := 0) (N' := 210) (a0 := (210, .inl (fun _ => 0))) (c' := 5) (n' := 330) (pc' := 42) K q93 rfl rfl (fun _ _ h => h) (fun _ => rfl) (by decide) (by decide) (by decide) ⟨Nat.le_of_ble_eq_true rfl, Nat.le_of_ble_eq_true rfl, Nat.le_of_ble_eq_true rfl, Nat.le_of_ble_eq_true rfl⟩ dX2_init_40 rfl (fun q21 hq21 => ?_)
  refine zw_nmM (fun M22 eM22 => ?_)
  have b23 : zfb a (zw_eC 6 [.int 0, .int 0, .ref q1, .ref q6, .ref q11, .ref q16, .null, .null, .int 0, .int 0, .null, .null, .null, .null, .null, .null, .null, .null, .null]) M [(q21, zw_eI (zw_Xw X) 210 (fun _ => 0)), (q16, zw_eI (zw_Xw X) 30 (fun _ => 0)), (q11, zw_eI (zw_Xw X) 30 (fun _ => 0)), (q6, zw_eI (zw_Xw X) 30 (fun _ => 0)), (q1, zw_eI (zw_Xw X) 30 (fun _ => 0))] M22 := by rw [eM22]; exact b20.new hq21
  refine zp_X2_22 (v := .ref q21) (pc' := 45) K hcon b23.1 rfl rfl (by simp) dX2_init_42 rfl ?_
  refine zw_nmM (fun M24 eM24 => ?_)
  have b25 : zfb a (zw_eC 6 [.int 0, .int 0, .ref q1, .ref q6, .ref q11, .ref q16, .ref q21, .null, .int 0, .int 0, .null, .null, .null, .null, .null, .null, .null, .null, .null]) M [(q21, zw_eI (zw_Xw X) 210 (fun _ => 0)), (q16, zw_eI (zw_Xw X) 30 (fun _ => 0)), (q11, zw_eI (zw_Xw X) 30 (fun _ => 0)), (q6, zw_eI (zw_Xw X) 30 (fun _ => 0)), (q1, zw_eI (zw_Xw X) 30 (fun _ => 0))] M24 := by rw [eM24]; exact b23.put
  refine zw_aload_n (v := .ref a) (pc' := 46) K dX2_init_45 rfl rfl rfl ?_
  refine zw_sipush (v := 210) (pc' := 49) K dX2_init_46 (by decide) rfl ?_
  refine zw_newa (atype := .boolean) (t0 := 1) (N' := 210) (a0 := (210, .inl (fun _ => 0))) (c' := 6) (n' := 540) (pc' := 51) K q734 rfl rfl (fun _ _ h => h) (fun _ => rfl) (by decide) (by decide) (by decide) ⟨Nat.le_of_ble_eq_true rfl, Nat.le_of_ble_eq_true rfl, Nat.le_of_ble_eq_true rfl, Nat.le_of_ble_eq_true rfl⟩ dX2_init_49 rfl (fun q26 hq26 => ?_)
  refine zw_nmM (fun M27 eM27 => ?_)
  have b28 : zfb a (zw_eC 6 [.int 0, .int 0, .ref q1, .ref q6, .ref q11, .ref q16, .ref q21, .null, .int 0, .int 0, .null, .null, .null, .null, .null, .null, .null, .null, .null]) M [(q26, zw_eZ (zw_Xw X) 210 (fun _ => 0)), (q21, zw_eI (zw_Xw X) 210 (fun _ => 0)), (q16, zw_eI (zw_Xw X) 30 (fun _ => 0)), (q11, zw_eI (zw_Xw X) 30 (fun _ => 0)), (q6, zw_eI (zw_Xw X) 30 (fun _ => 0)), (q1, zw_eI (zw_Xw X) 30 (fun _ => 0))] M27 := by rw [eM27]; exact b25.new hq26
  refine zp_X2_25 (v := .ref q26) (pc' := 54) K hcon b28.1 rfl rfl (by simp) dX2_init_51 rfl ?_
  refine zw_nmM (fun M29 eM29 => ?_)
  have b30 : zfb a (zw_eC 6 [.int 0, .int 0, .ref q1, .ref q6, .ref q11, .ref q16, .ref q21, .ref q26, .int 0, .int 0, .null, .null, .null, .null, .null, .null, .null, .null, .null]) M [(q26, zw_eZ (zw_Xw X) 210 (fun _ => 0)), (q21, zw_eI (zw_Xw X) 210 (fun _ => 0)), (q16, zw_eI (zw_Xw X) 30 (fun _ => 0)), (q11, zw_eI (zw_Xw X) 30 (fun _ => 0)), (q6, zw_eI (zw_Xw X) 30 (fun _ => 0)), (q1, zw_eI (zw_Xw X) 30 (fun _ => 0))] M29 := by rw [eM29]; exact b28.put
  refine zw_aload_n (v := .ref a) (pc' := 55) K dX2_init_54 rfl rfl rfl ?_
  refine zw_bipush (v := 10) (pc' := 57) K dX2_init_55 (by decide) rfl ?_
  refine zp_X2_29 (v := .int 10) (pc' := 60) K b30.1 rfl rfl (by simp) dX2_init_57 rfl ?_
  refine zw_nmM (fun M31 eM31 => ?_)
  have b32 : zfb a (zw_eC 6 [.int 0, .int 0, .ref q1, .ref q6, .ref q11, .ref q16, .ref q21, .ref q26, .int 10, .int 0, .null, .null, .null, .null, .null, .null, .null, .null, .null]) M [(q26, zw_eZ (zw_Xw X) 210 (fun _ => 0)), (q21, zw_eI (zw_Xw X) 210 (fun _ => 0)), (q16, zw_eI (zw_Xw X) 30 (fun _ => 0)), (q11, zw_eI (zw_Xw X) 30 (fun _ => 0)), (q6, zw_eI (zw_Xw X) 30 (fun _ => 0)), (q1, zw_eI (zw_Xw X) 30 (fun _ => 0))] M31 := by rw [eM31]; exact b30.put
  refine zw_aload_n (v := .ref a) (pc' := 61) K dX2_init_60 rfl rfl rfl ?_
  refine zw_bipush (v := 20) (pc' := 63) K dX2_init_61 (by decide) rfl ?_
  refine zw_newa (atype := .int) (t0 := 0) (N' := 20) (a0 := (20, .inl (fun _ => 0))) (c' := 7) (n' := 560) (pc' := 65) K q93 rfl rfl (fun _ _ h => h) (fun _ => rfl) (by decide) (by decide) (by decide) ⟨Nat.le_of_ble_eq_true rfl, Nat.le_of_ble_eq_true rfl, Nat.le_of_ble_eq_true rfl, Nat.le_of_ble_eq_true rfl⟩ dX2_init_63 rfl (fun q33 hq33 => ?_)
  refine zw_nmM (fun M34 eM34 => ?_)
  have b35 : zfb a (zw_eC 6 [.int 0, .int 0, .ref q1, .ref q6, .ref q11, .ref q16, .ref q21, .ref q26, .int 10, .int 0, .null, .null, .null, .null, .null, .null, .null, .null, .null]) M [(q33, zw_eI (zw_Xw X) 20 (fun _ => 0)), (q26, zw_eZ (zw_Xw X) 210 (fun _ => 0)), (q21, zw_eI (zw_Xw X) 210 (fun _ => 0)), (q16, zw_eI (zw_Xw X) 30 (fun _ => 0)), (q11, zw_eI (zw_Xw X) 30 (fun _ => 0)), (q6, zw_eI (zw_Xw X) 30 (fun _ => 0)), (q1, zw_eI (zw_Xw X) 30 (fun _ => 0))] M34 := by rw [eM34]; exact b32.new hq33
  refine zp_X2_33 (v := .ref q33) (pc' := 68) K hcon b35.1 rfl rfl (by simp) dX2_init_65 rfl ?_
  refine zw_nmM (fun M36 eM36 => ?_)
  have b37 : zfb a (zw_eC 6 [.int 0, .int 0, .ref q1, .ref q6, .ref q11, .ref q16, .ref q21, .ref q26, .int 10, .int 0, .ref q33, .null, .null, .null, .null, .null, .null, .null, .null]) M [(q33, zw_eI (zw_Xw X) 20 (fun _ => 0)), (q26, zw_eZ (zw_Xw X) 210 (fun _ => 0)), (q21, zw_eI (zw_Xw X) 210 (fun _ => 0)), (q16, zw_eI (zw_Xw X) 30 (fun _ => 0)), (q11, zw_eI (zw_Xw X) 30 (fun _ => 0)), (q6, zw_eI (zw_Xw X) 30 (fun _ => 0)), (q1, zw_eI (zw_Xw X) 30 (fun _ => 0))] M36 := by rw [eM36]; exact b35.put
  refine zw_aload_n (v := .ref a) (pc' := 69) K dX2_init_68 rfl rfl rfl ?_
  refine zw_bipush (v := 20) (pc' := 71) K dX2_init_69 (by decide) rfl ?_
  refine zw_newa (atype := .int) (t0 := 0) (N' := 20) (a0 := (20, .inl (fun _ => 0))) (c' := 8) (n' := 580) (pc' := 73) K q93 rfl rfl (fun _ _ h => h) (fun _ => rfl) (by decide) (by decide) (by decide) ⟨Nat.le_of_ble_eq_true rfl, Nat.le_of_ble_eq_true rfl, Nat.le_of_ble_eq_true rfl, Nat.le_of_ble_eq_true rfl⟩ dX2_init_71 rfl (fun q38 hq38 => ?_)
  refine zw_nmM (fun M39 eM39 => ?_)
  have b40 : zfb a (zw_eC 6 [.int 0, .int 0, .ref q1, .ref q6, .ref q11, .ref q16, .ref q21, .ref q26, .int 10, .int 0, .ref q33, .null, .null, .null, .null, .null, .null, .null, .null]) M [(q38, zw_eI (zw_Xw X) 20 (fun _ => 0)), (q33, zw_eI (zw_Xw X) 20 (fun _ => 0)), (q26, zw_eZ (zw_Xw X) 210 (fun _ => 0)), (q21, zw_eI (zw_Xw X) 210 (fun _ => 0)), (q16, zw_eI (zw_Xw X) 30 (fun _ => 0)), (q11, zw_eI (zw_Xw X) 30 (fun _ => 0)), (q6, zw_eI (zw_Xw X) 30 (fun _ => 0)), (q1, zw_eI (zw_Xw X) 30 (fun _ => 0))] M39 := by rw [eM39]; exact b37.new hq38
  refine zp_X2_36 (v := .ref q38) (pc' := 76) K hcon b40.1 rfl rfl (by simp) dX2_init_73 rfl ?_
  refine zw_nmM (fun M41 eM41 => ?_)
  have b42 : zfb a (zw_eC 6 [.int 0, .int 0, .ref q1, .ref q6, .ref q11, .ref q16, .ref q21, .ref q26, .int 10, .int 0, .ref q33, .ref q38, .null, .null, .null, .null, .null, .null, .null]) M [(q38, zw_eI (zw_Xw X) 20 (fun _ => 0)), (q33, zw_eI (zw_Xw X) 20 (fun _ => 0)), (q26, zw_eZ (zw_Xw X) 210 (fun _ => 0)), (q21, zw_eI (zw_Xw X) 210 (fun _ => 0)), (q16, zw_eI (zw_Xw X) 30 (fun _ => 0)), (q11, zw_eI (zw_Xw X) 30 (fun _ => 0)), (q6, zw_eI (zw_Xw X) 30 (fun _ => 0)), (q1, zw_eI (zw_Xw X) 30 (fun _ => 0))] M41 := by rw [eM41]; exact b40.put
  refine zw_aload_n (v := .ref a) (pc' := 77) K dX2_init_76 rfl rfl rfl ?_
  refine zw_bipush (v := 20) (pc' := 79) K dX2_init_77 (by decide) rfl ?_
  refine zw_newa (atype := .int) (t0 := 0) (N' := 20) (a0 := (20, .inl (fun _ => 0))) (c' := 9) (n' := 600) (pc' := 81) K q93 rfl rfl (fun _ _ h => h) (fun _ => rfl) (by decide) (by decide) (by decide) ⟨Nat.le_of_ble_eq_true rfl, Nat.le_of_ble_eq_true rfl, Nat.le_of_ble_eq_true rfl, Nat.le_of_ble_eq_true rfl⟩ dX2_init_79 rfl (fun q43 hq43 => ?_)
  refine zw_nmM (fun M44 eM44 => ?_)
  have b45 : zfb a (zw_eC 6 [.int 0, .int 0, .ref q1, .ref q6, .ref q11, .ref q16, .ref q21, .ref q26, .int 10, .int 0, .ref q33, .ref q38, .null, .null, .null, .null, .null, .null, .null]) M [(q43, zw_eI (zw_Xw X) 20 (fun _ => 0)), (q38, zw_eI (zw_Xw X) 20 (fun _ => 0)), (q33, zw_eI (zw_Xw X) 20 (fun _ => 0)), (q26, zw_eZ (zw_Xw X) 210 (fun _ => 0)), (q21, zw_eI (zw_Xw X) 210 (fun _ => 0)), (q16, zw_eI (zw_Xw X) 30 (fun _ => 0)), (q11, zw_eI (zw_Xw X) 30 (fun _ => 0)), (q6, zw_eI (zw_Xw X) 30 (fun _ => 0)), (q1, zw_eI (zw_Xw X) 30 (fun _ => 0))] M44 := by rw [eM44]; exact b42.new hq43
  refine zp_X2_39 (v := .ref q43) (pc' := 84) K hcon b45.1 rfl rfl (by simp) dX2_init_81 rfl ?_
  refine zw_nmM (fun M46 eM46 => ?_)
  have b47 : zfb a (zw_eC 6 [.int 0, .int 0, .ref q1, .ref q6, .ref q11, .ref q16, .ref q21, .ref q26, .int 10, .int 0, .ref q33, .ref q38, .ref q43, .null, .null, .null, .null, .null, .null]) M [(q43, zw_eI (zw_Xw X) 20 (fun _ => 0)), (q38, zw_eI (zw_Xw X) 20 (fun _ => 0)), (q33, zw_eI (zw_Xw X) 20 (fun _ => 0)), (q26, zw_eZ (zw_Xw X) 210 (fun _ => 0)), (q21, zw_eI (zw_Xw X) 210 (fun _ => 0)), (q16, zw_eI (zw_Xw X) 30 (fun _ => 0)), (q11, zw_eI (zw_Xw X) 30 (fun _ => 0)), (q6, zw_eI (zw_Xw X) 30 (fun _ => 0)), (q1, zw_eI (zw_Xw X) 30 (fun _ => 0))] M46 := by rw [eM46]; exact b45.put
  refine zw_aload_n (v := .ref a) (pc' := 85) K dX2_init_84 rfl rfl rfl ?_
  refine zw_bipush (v := 20) (pc' := 87) K dX2_init_85 (by decide) rfl ?_
  refine zw_newa (atype := .int) (t0 := 0) (N' := 20) (a0 := (20, .inl (fun _ => 0))) (c' := 10) (n' := 620) (pc' := 89) K q93 rfl rfl (fun _ _ h => h) (fun _ => rfl) (by decide) (by decide) (by decide) ⟨Nat.le_of_ble_eq_true rfl, Nat.le_of_ble_eq_true rfl, Nat.le_of_ble_eq_true rfl, Nat.le_of_ble_eq_true rfl⟩ dX2_init_87 rfl (fun q48 hq48 => ?_)
  refine zw_nmM (fun M49 eM49 => ?_)
  have b50 : zfb a (zw_eC 6 [.int 0, .int 0, .ref q1, .ref q6, .ref q11, .ref q16, .ref q21, .ref q26, .int 10, .int 0, .ref q33, .ref q38, .ref q43, .null, .null, .null, .null, .null, .null]) M [(q48, zw_eI (zw_Xw X) 20 (fun _ => 0)), (q43, zw_eI (zw_Xw X) 20 (fun _ => 0)), (q38, zw_eI (zw_Xw X) 20 (fun _ => 0)), (q33, zw_eI (zw_Xw X) 20 (fun _ => 0)), (q26, zw_eZ (zw_Xw X) 210 (fun _ => 0)), (q21, zw_eI (zw_Xw X) 210 (fun _ => 0)), (q16, zw_eI (zw_Xw X) 30 (fun _ => 0)), (q11, zw_eI (zw_Xw X) 30 (fun _ => 0)), (q6, zw_eI (zw_Xw X) 30 (fun _ => 0)), (q1, zw_eI (zw_Xw X) 30 (fun _ => 0))] M49 := by rw [eM49]; exact b47.new hq48
  refine zp_X2_42 (v := .ref q48) (pc' := 92) K hcon b50.1 rfl rfl (by simp) dX2_init_89 rfl ?_
  refine zw_nmM (fun M51 eM51 => ?_)
  have b52 : zfb a (zw_eC 6 [.int 0, .int 0, .ref q1, .ref q6, .ref q11, .ref q16, .ref q21, .ref q26, .int 10, .int 0, .ref q33, .ref q38, .ref q43, .ref q48, .null, .null, .null, .null, .null]) M [(q48, zw_eI (zw_Xw X) 20 (fun _ => 0)), (q43, zw_eI (zw_Xw X) 20 (fun _ => 0)), (q38, zw_eI (zw_Xw X) 20 (fun _ => 0)), (q33, zw_eI (zw_Xw X) 20 (fun _ => 0)), (q26, zw_eZ (zw_Xw X) 210 (fun _ => 0)), (q21, zw_eI (zw_Xw X) 210 (fun _ => 0)), (q16, zw_eI (zw_Xw X) 30 (fun _ => 0)), (q11, zw_eI (zw_Xw X) 30 (fun _ => 0)), (q6, zw_eI (zw_Xw X) 30 (fun _ => 0)), (q1, zw_eI (zw_Xw X) 30 (fun _ => 0))] M51 := by rw [eM51]; exact b50.put
  refine zw_aload_n (v := .ref a) (pc' := 93) K dX2_init_92 rfl rfl rfl ?_
  refine zw_bipush (v := 20) (pc' := 95) K dX2_init_93 (by decide) rfl ?_
  refine zw_newa (atype := .int) (t0 := 0) (N' := 20) (a0 := (20, .inl (fun _ => 0))) (c' := 11) (n' := 640) (pc' := 97) K q93 rfl rfl (fun _ _ h => h) (fun _ => rfl) (by decide) (by decide) (by decide) ⟨Nat.le_of_ble_eq_true rfl, Nat.le_of_ble_eq_true rfl, Nat.le_of_ble_eq_true rfl, Nat.le_of_ble_eq_true rfl⟩ dX2_init_95 rfl (fun q53 hq53 => ?_)
  refine zw_nmM (fun M54 eM54 => ?_)
  have b55 : zfb a (zw_eC 6 [.int 0, .int 0, .ref q1, .ref q6, .ref q11, .ref q16, .ref q21, .ref q26, .int 10, .int 0, .ref q33, .ref q38, .ref q43, .ref q48, .null, .null, .null, .null, .null]) M [(q53, zw_eI (zw_Xw X) 20 (fun _ => 0)), (q48, zw_eI (zw_Xw X) 20 (fun _ => 0)), (q43, zw_eI (zw_Xw X) 20 (fun _ => 0)), (q38, zw_eI (zw_Xw X) 20 (fun _ => 0)), (q33, zw_eI (zw_Xw X) 20 (fun _ => 0)), (q26, zw_eZ (zw_Xw X) 210 (fun _ => 0)), (q21, zw_eI (zw_Xw X) 210 (fun _ => 0)), (q16, zw_eI (zw_Xw X) 30 (fun _ => 0)), (q11, zw_eI (zw_Xw X) 30 (fun _ => 0)), (q6, zw_eI (zw_Xw X) 30 (fun _ => 0)), (q1, zw_eI (zw_Xw X) 30 (fun _ => 0))] M54 := by rw [eM54]; exact b52.new hq53
  refine zp_X2_45 (v := .ref q53) (pc' := 100) K hcon b55.1 rfl rfl (by simp) dX2_init_97 rfl ?_
  refine zw_nmM (fun M56 eM56 => ?_)
  have b57 : zfb a (zw_eC 6 [.int 0, .int 0, .ref q1, .ref q6, .ref q11, .ref q16, .ref q21, .ref q26, .int 10, .int 0, .ref q33, .ref q38, .ref q43, .ref q48, .ref q53, .null, .null, .null, .null]) M [(q53, zw_eI (zw_Xw X) 20 (fun _ => 0)), (q48, zw_eI (zw_Xw X) 20 (fun _ => 0)), (q43, zw_eI (zw_Xw X) 20 (fun _ => 0)), (q38, zw_eI (zw_Xw X) 20 (fun _ => 0)), (q33, zw_eI (zw_Xw X) 20 (fun _ => 0)), (q26, zw_eZ (zw_Xw X) 210 (fun _ => 0)), (q21, zw_eI (zw_Xw X) 210 (fun _ => 0)), (q16, zw_eI (zw_Xw X) 30 (fun _ => 0)), (q11, zw_eI (zw_Xw X) 30 (fun _ => 0)), (q6, zw_eI (zw_Xw X) 30 (fun _ => 0)), (q1, zw_eI (zw_Xw X) 30 (fun _ => 0))] M56 := by rw [eM56]; exact b55.put
  refine zw_aload_n (v := .ref a) (pc' := 101) K dX2_init_100 rfl rfl rfl ?_
  refine zw_bipush (v := 40) (pc' := 103) K dX2_init_101 (by decide) rfl ?_
  refine zw_newa (atype := .int) (t0 := 0) (N' := 40) (a0 := (40, .inl (fun _ => 0))) (c' := 12) (n' := 680) (pc' := 105) K q93 rfl rfl (fun _ _ h => h) (fun _ => rfl) (by decide) (by decide) (by decide) ⟨Nat.le_of_ble_eq_true rfl, Nat.le_of_ble_eq_true rfl, Nat.le_of_ble_eq_true rfl, Nat.le_of_ble_eq_true rfl⟩ dX2_init_103 rfl (fun q58 hq58 => ?_)
  refine zw_nmM (fun M59 eM59 => ?_)
  have b60 : zfb a (zw_eC 6 [.int 0, .int 0, .ref q1, .ref q6, .ref q11, .ref q16, .ref q21, .ref q26, .int 10, .int 0, .ref q33, .ref q38, .ref q43, .ref q48, .ref q53, .null, .null, .null, .null]) M [(q58, zw_eI (zw_Xw X) 40 (fun _ => 0)), (q53, zw_eI (zw_Xw X) 20 (fun _ => 0)), (q48, zw_eI (zw_Xw X) 20 (fun _ => 0)), (q43, zw_eI (zw_Xw X) 20 (fun _ => 0)), (q38, zw_eI (zw_Xw X) 20 (fun _ => 0)), (q33, zw_eI (zw_Xw X) 20 (fun _ => 0)), (q26, zw_eZ (zw_Xw X) 210 (fun _ => 0)), (q21, zw_eI (zw_Xw X) 210 (fun _ => 0)), (q16, zw_eI (zw_Xw X) 30 (fun _ => 0)), (q11, zw_eI (zw_Xw X) 30 (fun _ => 0)), (q6, zw_eI (zw_Xw X) 30 (fun _ => 0)), (q1, zw_eI (zw_Xw X) 30 (fun _ => 0))] M59 := by rw [eM59]; exact b57.new hq58
  refine zp_X2_48 (v := .ref q58) (pc' := 108) K hcon b60.1 rfl rfl (by simp) dX2_init_105 rfl ?_
  refine zw_nmM (fun M61 eM61 => ?_)
  have b62 : zfb a (zw_eC 6 [.int 0, .int 0, .ref q1, .ref q6, .ref q11, .ref q16, .ref q21, .ref q26, .int 10, .int 0, .ref q33, .ref q38, .ref q43, .ref q48, .ref q53, .ref q58, .null, .null, .null]) M [(q58, zw_eI (zw_Xw X) 40 (fun _ => 0)), (q53, zw_eI (zw_Xw X) 20 (fun _ => 0)), (q48, zw_eI (zw_Xw X) 20 (fun _ => 0)), (q43, zw_eI (zw_Xw X) 20 (fun _ => 0)), (q38, zw_eI (zw_Xw X) 20 (fun _ => 0)), (q33, zw_eI (zw_Xw X) 20 (fun _ => 0)), (q26, zw_eZ (zw_Xw X) 210 (fun _ => 0)), (q21, zw_eI (zw_Xw X) 210 (fun _ => 0)), (q16, zw_eI (zw_Xw X) 30 (fun _ => 0)), (q11, zw_eI (zw_Xw X) 30 (fun _ => 0)), (q6, zw_eI (zw_Xw X) 30 (fun _ => 0)), (q1, zw_eI (zw_Xw X) 30 (fun _ => 0))] M61 := by rw [eM61]; exact b60.put
  refine zw_aload_n (v := .ref a) (pc' := 109) K dX2_init_108 rfl rfl rfl ?_
  refine zw_bipush (v := 40) (pc' := 111) K dX2_init_109 (by decide) rfl ?_
  refine zw_newa (atype := .int) (t0 := 0) (N' := 40) (a0 := (40, .inl (fun _ => 0))) (c' := 13) (n' := 720) (pc' := 113) K q93 rfl rfl (fun _ _ h => h) (fun _ => rfl) (by decide) (by decide) (by decide) ⟨Nat.le_of_ble_eq_true rfl, Nat.le_of_ble_eq_true rfl, Nat.le_of_ble_eq_true rfl, Nat.le_of_ble_eq_true rfl⟩ dX2_init_111 rfl (fun q63 hq63 => ?_)
  refine zw_nmM (fun M64 eM64 => ?_)
  have b65 : zfb a (zw_eC 6 [.int 0, .int 0, .ref q1, .ref q6, .ref q11, .ref q16, .ref q21, .ref q26, .int 10, .int 0, .ref q33, .ref q38, .ref q43, .ref q48, .ref q53, .ref q58, .null, .null, .null]) M [(q63, zw_eI (zw_Xw X) 40 (fun _ => 0)), (q58, zw_eI (zw_Xw X) 40 (fun _ => 0)), (q53, zw_eI (zw_Xw X) 20 (fun _ => 0)), (q48, zw_eI (zw_Xw X) 20 (fun _ => 0)), (q43, zw_eI (zw_Xw X) 20 (fun _ => 0)), (q38, zw_eI (zw_Xw X) 20 (fun _ => 0)), (q33, zw_eI (zw_Xw X) 20 (fun _ => 0)), (q26, zw_eZ (zw_Xw X) 210 (fun _ => 0)), (q21, zw_eI (zw_Xw X) 210 (fun _ => 0)), (q16, zw_eI (zw_Xw X) 30 (fun _ => 0)), (q11, zw_eI (zw_Xw X) 30 (fun _ => 0)), (q6, zw_eI (zw_Xw X) 30 (fun _ => 0)), (q1, zw_eI (zw_Xw X) 30 (fun _ => 0))] M64 := by rw [eM64]; exact b62.new hq63
  refine zp_X2_51 (v := .ref q63) (pc' := 116) K hcon b65.1 rfl rfl (by simp) dX2_init_113 rfl ?_
  refine zw_nmM (fun M66 eM66 => ?_)
  have b67 : zfb a (zw_eC 6 [.int 0, .int 0, .ref q1, .ref q6, .ref q11, .ref q16, .ref q21, .ref q26, .int 10, .int 0, .ref q33, .ref q38, .ref q43, .ref q48, .ref q53, .ref q58, .ref q63, .null, .null]) M [(q63, zw_eI (zw_Xw X) 40 (fun _ => 0)), (q58, zw_eI (zw_Xw X) 40 (fun _ => 0)), (q53, zw_eI (zw_Xw X) 20 (fun _ => 0)), (q48, zw_eI (zw_Xw X) 20 (fun _ => 0)), (q43, zw_eI (zw_Xw X) 20 (fun _ => 0)), (q38, zw_eI (zw_Xw X) 20 (fun _ => 0)), (q33, zw_eI (zw_Xw X) 20 (fun _ => 0)), (q26, zw_eZ (zw_Xw X) 210 (fun _ => 0)), (q21, zw_eI (zw_Xw X) 210 (fun _ => 0)), (q16, zw_eI (zw_Xw X) 30 (fun _ => 0)), (q11, zw_eI (zw_Xw X) 30 (fun _ => 0)), (q6, zw_eI (zw_Xw X) 30 (fun _ => 0)), (q1, zw_eI (zw_Xw X) 30 (fun _ => 0))] M66 := by rw [eM66]; exact b65.put
  refine zw_aload_n (v := .ref a) (pc' := 117) K dX2_init_116 rfl rfl rfl ?_
  refine zw_bipush (v := 20) (pc' := 119) K dX2_init_117 (by decide) rfl ?_
  refine zw_newa (atype := .boolean) (t0 := 1) (N' := 20) (a0 := (20, .inl (fun _ => 0))) (c' := 14) (n' := 740) (pc' := 121) K q734 rfl rfl (fun _ _ h => h) (fun _ => rfl) (by decide) (by decide) (by decide) ⟨Nat.le_of_ble_eq_true rfl, Nat.le_of_ble_eq_true rfl, Nat.le_of_ble_eq_true rfl, Nat.le_of_ble_eq_true rfl⟩ dX2_init_119 rfl (fun q68 hq68 => ?_)
  refine zw_nmM (fun M69 eM69 => ?_)
  have b70 : zfb a (zw_eC 6 [.int 0, .int 0, .ref q1, .ref q6, .ref q11, .ref q16, .ref q21, .ref q26, .int 10, .int 0, .ref q33, .ref q38, .ref q43, .ref q48, .ref q53, .ref q58, .ref q63, .null, .null]) M [(q68, zw_eZ (zw_Xw X) 20 (fun _ => 0)), (q63, zw_eI (zw_Xw X) 40 (fun _ => 0)), (q58, zw_eI (zw_Xw X) 40 (fun _ => 0)), (q53, zw_eI (zw_Xw X) 20 (fun _ => 0)), (q48, zw_eI (zw_Xw X) 20 (fun _ => 0)), (q43, zw_eI (zw_Xw X) 20 (fun _ => 0)), (q38, zw_eI (zw_Xw X) 20 (fun _ => 0)), (q33, zw_eI (zw_Xw X) 20 (fun _ => 0)), (q26, zw_eZ (zw_Xw X) 210 (fun _ => 0)), (q21, zw_eI (zw_Xw X) 210 (fun _ => 0)), (q16, zw_eI (zw_Xw X) 30 (fun _ => 0)), (q11, zw_eI (zw_Xw X) 30 (fun _ => 0)), (q6, zw_eI (zw_Xw X) 30 (fun _ => 0)), (q1, zw_eI (zw_Xw X) 30 (fun _ => 0))] M69 := by rw [eM69]; exact b67.new hq68
  refine zp_X2_54 (v := .ref q68) (pc' := 124) K hcon b70.1 rfl rfl (by simp) dX2_init_121 rfl ?_
  refine zw_nmM (fun M71 eM71 => ?_)
  have b72 : zfb a (zw_eC 6 [.int 0, .int 0, .ref q1, .ref q6, .ref q11, .ref q16, .ref q21, .ref q26, .int 10, .int 0, .ref q33, .ref q38, .ref q43, .ref q48, .ref q53, .ref q58, .ref q63, .ref q68, .null]) M [(q68, zw_eZ (zw_Xw X) 20 (fun _ => 0)), (q63, zw_eI (zw_Xw X) 40 (fun _ => 0)), (q58, zw_eI (zw_Xw X) 40 (fun _ => 0)), (q53, zw_eI (zw_Xw X) 20 (fun _ => 0)), (q48, zw_eI (zw_Xw X) 20 (fun _ => 0)), (q43, zw_eI (zw_Xw X) 20 (fun _ => 0)), (q38, zw_eI (zw_Xw X) 20 (fun _ => 0)), (q33, zw_eI (zw_Xw X) 20 (fun _ => 0)), (q26, zw_eZ (zw_Xw X) 210 (fun _ => 0)), (q21, zw_eI (zw_Xw X) 210 (fun _ => 0)), (q16, zw_eI (zw_Xw X) 30 (fun _ => 0)), (q11, zw_eI (zw_Xw X) 30 (fun _ => 0)), (q6, zw_eI (zw_Xw X) 30 (fun _ => 0)), (q1, zw_eI (zw_Xw X) 30 (fun _ => 0))] M71 := by rw [eM71]; exact b70.put
  refine zw_aload_n (v := .ref a) (pc' := 125) K dX2_init_124 rfl rfl rfl ?_
  refine zw_bipush (v := 7) (pc' := 127) K dX2_init_125 (by decide) rfl ?_
  refine zw_newa (atype := .int) (t0 := 0) (N' := 7) (a0 := (7, .inl (fun _ => 0))) (c' := 15) (n' := 747) (pc' := 129) K q93 rfl rfl (fun _ _ h => h) (fun _ => rfl) (by decide) (by decide) (by decide) ⟨Nat.le_of_ble_eq_true rfl, Nat.le_of_ble_eq_true rfl, Nat.le_of_ble_eq_true rfl, Nat.le_of_ble_eq_true rfl⟩ dX2_init_127 rfl (fun q73 hq73 => ?_)
  refine zw_nmM (fun M74 eM74 => ?_)
  have b75 : zfb a (zw_eC 6 [.int 0, .int 0, .ref q1, .ref q6, .ref q11, .ref q16, .ref q21, .ref q26, .int 10, .int 0, .ref q33, .ref q38, .ref q43, .ref q48, .ref q53, .ref q58, .ref q63, .ref q68, .null]) M [(q73, zw_eI (zw_Xw X) 7 (fun _ => 0)), (q68, zw_eZ (zw_Xw X) 20 (fun _ => 0)), (q63, zw_eI (zw_Xw X) 40 (fun _ => 0)), (q58, zw_eI (zw_Xw X) 40 (fun _ => 0)), (q53, zw_eI (zw_Xw X) 20 (fun _ => 0)), (q48, zw_eI (zw_Xw X) 20 (fun _ => 0)), (q43, zw_eI (zw_Xw X) 20 (fun _ => 0)), (q38, zw_eI (zw_Xw X) 20 (fun _ => 0)), (q33, zw_eI (zw_Xw X) 20 (fun _ => 0)), (q26, zw_eZ (zw_Xw X) 210 (fun _ => 0)), (q21, zw_eI (zw_Xw X) 210 (fun _ => 0)), (q16, zw_eI (zw_Xw X) 30 (fun _ => 0)), (q11, zw_eI (zw_Xw X) 30 (fun _ => 0)), (q6, zw_eI (zw_Xw X) 30 (fun _ => 0)), (q1, zw_eI (zw_Xw X) 30 (fun _ => 0))] M74 := by rw [eM74]; exact b72.new hq73
  refine zp_X2_57 (v := .ref q73) (pc' := 132) K hcon b75.1 rfl rfl (by simp) dX2_init_129 rfl ?_
  refine zw_nmM (fun M76 eM76 => ?_)
  have b77 : zfb a (zw_eC 6 [.int 0, .int 0, .ref q1, .ref q6, .ref q11, .ref q16, .ref q21, .ref q26, .int 10, .int 0, .ref q33, .ref q38, .ref q43, .ref q48, .ref q53, .ref q58, .ref q63, .ref q68, .ref q73]) M [(q73, zw_eI (zw_Xw X) 7 (fun _ => 0)), (q68, zw_eZ (zw_Xw X) 20 (fun _ => 0)), (q63, zw_eI (zw_Xw X) 40 (fun _ => 0)), (q58, zw_eI (zw_Xw X) 40 (fun _ => 0)), (q53, zw_eI (zw_Xw X) 20 (fun _ => 0)), (q48, zw_eI (zw_Xw X) 20 (fun _ => 0)), (q43, zw_eI (zw_Xw X) 20 (fun _ => 0)), (q38, zw_eI (zw_Xw X) 20 (fun _ => 0)), (q33, zw_eI (zw_Xw X) 20 (fun _ => 0)), (q26, zw_eZ (zw_Xw X) 210 (fun _ => 0)), (q21, zw_eI (zw_Xw X) 210 (fun _ => 0)), (q16, zw_eI (zw_Xw X) 30 (fun _ => 0)), (q11, zw_eI (zw_Xw X) 30 (fun _ => 0)), (q6, zw_eI (zw_Xw X) 30 (fun _ => 0)), (q1, zw_eI (zw_Xw X) 30 (fun _ => 0))] M76 := by rw [eM76]; exact b75.put
  exact zw_vret K hE dX2_init_132 ⟨Nat.le_of_ble_eq_true rfl, Nat.le_of_ble_eq_true rfl⟩ (⟨q1, q6, q11, q16, q21, q26, q33, q38, q43, q48, q53, q58, q63, q68, q73, b77⟩)
