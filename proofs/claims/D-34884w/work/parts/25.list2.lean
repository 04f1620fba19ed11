/-! java.util.ArrayList, second part: add and what it calls -/
set_option maxRecDepth 100000
set_option maxHeartbeats 2000000 in
theorem ct_J7_newLength {w : zw_W} {l : Launch} (hl : l.stackTraces = false) (M : zw_M) (x y z v : Int32) (hv : x + (if y < z then z else y) = v) (h1 : 0 < v) (h2 : v ≤ 2147483639) : zw_C w l yJ7_newLength cJ7_newLength 4 (Option.some Jvm.ClassFile.FieldType.int) (zr 2 0 0) [.int x, .int y, .int z] M (zw_pi fun r M1 => r = v ∧ M1 = M) zw_no := by
  refine zw_enter RJ7 rfl (by decide) hl (by simp [Value.category]) (Nat.le_of_ble_eq_true rfl) (fun X hXl hXw K hE htab hcon => ?_)
  subst hXl; subst hXw
  show zw_Z X _ 0 0 0 [some (.int x), some (.int y), some (.int z), none] []
  refine zw_iload_n (x := x) (pc' := 1) K dJ7_newLength_0 rfl rfl ?_
  refine zw_iload_n (x := y) (pc' := 2) K dJ7_newLength_1 rfl rfl ?_
  refine zw_iload_n (x := z) (pc' := 3) K dJ7_newLength_2 rfl rfl ?_
  refine zw_max (pc' := 6) K q319 q108 q33 q109 ⟨Nat.le_of_ble_eq_true rfl, Nat.le_of_ble_eq_true rfl, Nat.le_of_ble_eq_true rfl, Nat.le_of_ble_eq_true rfl⟩ dJ7_newLength_3 rfl ?_
  refine zw_iadd (pc' := 7) K dJ7_newLength_6 rfl ?_
  rw [hv]
  refine zw_istore_n (lv' := [some (.int x), some (.int y), some (.int z), some (.int v)]) (pc' := 8) K dJ7_newLength_7 (by decide) rfl rfl ?_
  refine zw_iconst (v := 0) (pc' := 9) K dJ7_newLength_8 (by decide) rfl ?_
  refine zw_iload_n (x := v) (pc' := 10) K dJ7_newLength_9 rfl rfl ?_
  refine zw_icmp_ge (tgt := 21) (pc' := 13) K dJ7_newLength_10 (by decide) rfl (fun c10 => absurd c10 (Int32.not_le.mpr h1)) (fun c10 => ?_)
  refine zw_iload_n (x := v) (pc' := 14) K dJ7_newLength_13 rfl rfl ?_
  refine zw_ldc (v := 2147483639) (pc' := 16) K q320 dJ7_newLength_14 rfl ?_
  refine zw_icmp_gt (tgt := 21) (pc' := 19) K dJ7_newLength_16 (by decide) rfl (fun c16 => absurd c16 (Int32.not_lt.mpr h2)) (fun c16 => ?_)
  refine zw_iload_n (x := v) (pc' := 20) K dJ7_newLength_19 rfl rfl ?_
  exact zw_iret K hE dJ7_newLength_20 ⟨Nat.le_of_ble_eq_true rfl, Nat.le_of_ble_eq_true rfl⟩ (⟨rfl, rfl⟩)
set_option maxHeartbeats 2000000 in
theorem ct_J9_copyOf_2 {w : zw_W} {l : Launch} (hl : l.stackTraces = false) (M : zw_M) (a n cap : Nat) {f : Nat → Option Nat} (hA : M a = some (zw_eO w n f)) (hel : ∀ i, i < n → ∃ y, f i = some y ∧ zlk M y) (hc : n ≤ cap) (hc2 : cap ≤ 64) : zw_C w l yJ9_copyOf_2 cJ9_copyOf_2 4 (Option.some (Jvm.ClassFile.FieldType.array (Jvm.ClassFile.FieldType.object "java/lang/Object"))) (zr 2 1 64) [.ref a, .int (nI cap), .ref (zw_k w 6)] M (zw_pr fun r M1 => ∃ (q : Nat) (g : Nat → Option Nat), r = some q ∧ M q = none ∧ (∀ i, i < n → g i = f i) ∧ M1 = zw_u M q (zw_eO w cap g)) zw_no := by
  refine zw_enter RJ9 rfl (by decide) hl (by simp [Value.category]) (Nat.le_of_ble_eq_true rfl) (fun X hXl hXw K hE htab hcon => ?_)
  subst hXl; subst hXw
  show zw_Z X _ 0 0 0 [some (.ref a), some (.int (nI cap)), some (.ref (zw_k (zw_Xw X) 6)), none] []
  refine zw_aload_n (v := .ref (zw_k (zw_Xw X) 6)) (pc' := 1) K dJ9_copyOf_2_0 rfl rfl rfl ?_
  refine zw_ldcM (pc' := 3) K q345 dJ9_copyOf_2_1 rfl ?_
  refine zw_acmp_ne (rx := some (zw_k (zw_Xw X) 6)) (ry := some (zw_k (zw_Xw X) 6)) (tgt := 13) (pc' := 6) K dJ9_copyOf_2_3 (by decide) rfl (fun c3 => by exact absurd rfl c3) (fun c3 => ?_)
  refine zw_iload_n (x := nI cap) (pc' := 7) K dJ9_copyOf_2_6 rfl rfl ?_
  refine zw_newq (t0 := 3) (N' := cap) (c' := 1) (n' := 64) (pc' := 10) K q347 (fun h => h.2.2.2.2.2.2.2.1.2.1) rfl (nI_pos (by omega)) (nI_clamp (by omega)) (by omega) ⟨Nat.le_of_ble_eq_true rfl, by omega, Nat.le_of_ble_eq_true rfl, Nat.le_of_ble_eq_true rfl⟩ dJ9_copyOf_2_7 rfl (fun q hq => ?_)
  refine zw_nmM (fun M1 eM1 => ?_)
  have f2 : M1 a = some (zw_eO (zw_Xw X) n f) := by rw [eM1]; exact zw_un' (zw_nn hA hq) hA
  have f3 : M1 q = some (zw_eO (zw_Xw X) cap (fun _ => none)) := by rw [eM1]; exact zw_us
  refine zw_goto (tgt := 24) K dJ9_copyOf_2_10 (by decide) ?_
  refine zw_astore_n (lv' := [some (.ref a), some (.int (nI cap)), some (.ref (zw_k (zw_Xw X) 6)), some (.ref q)]) (pc' := 25) K dJ9_copyOf_2_24 rfl (by decide) rfl rfl ?_
  refine zw_aload_n (v := .ref a) (pc' := 26) K dJ9_copyOf_2_25 rfl rfl rfl ?_
  refine zw_iconst (v := 0) (pc' := 27) K dJ9_copyOf_2_26 (by decide) rfl ?_
  refine zw_aload_n (v := .ref q) (pc' := 28) K dJ9_copyOf_2_27 rfl rfl rfl ?_
  refine zw_iconst (v := 0) (pc' := 29) K dJ9_copyOf_2_28 (by decide) rfl ?_
  refine zw_aload_n (v := .ref a) (pc' := 30) K dJ9_copyOf_2_29 rfl rfl rfl ?_
  refine zw_alen (t0 := 3) (v := nI n) (pc' := 31) K f2 rfl rfl dJ9_copyOf_2_30 rfl ?_
  refine zw_iload_n (x := nI cap) (pc' := 32) K dJ9_copyOf_2_31 rfl rfl ?_
  refine zw_min (pc' := 35) K q348 q105 q33 q106 ⟨Nat.le_of_ble_eq_true rfl, Nat.le_of_ble_eq_true rfl, Nat.le_of_ble_eq_true rfl, Nat.le_of_ble_eq_true rfl⟩ dJ9_copyOf_2_32 rfl ?_
  rw [if_neg (Int32.not_lt.mpr ((nI_leI (by omega) (by omega)).mpr hc))]
  refine zw_copy (pc' := 38) K f2 f3 q349 q351 q350 q35 (by decide) (by decide) (nI_pos (by omega)) (by rw [nI_clamp (by omega)]; exact Nat.le_of_eq (Nat.zero_add n)) (by rw [nI_clamp (by omega)]; exact Nat.le_trans (Nat.le_of_eq (Nat.zero_add n)) hc) (fun i hi y hy => by rw [nI_clamp (by omega)] at hi; obtain ⟨y2, g1, g2⟩ := hel i hi; rw [show (0 : Int32).toNatClampNeg + i = i from Nat.zero_add i, g1] at hy; cases hy; obtain ⟨ci, rr, fs, k1, k2, k3⟩ := g2; exact ⟨ci, rr, fs, k1, (by rw [eM1]; exact zw_un' (zw_nn k2 hq) k2), k3⟩) dJ9_copyOf_2_35 rfl ⟨Nat.le_of_ble_eq_true rfl, Nat.le_of_ble_eq_true rfl⟩ ?_
  refine zw_nmM (fun M4 eM4 => ?_)
  have f5 : M4 a = some (zw_eO (zw_Xw X) n f) := by rw [eM4]; exact zw_un' (zw_nn hA hq) f2
  have f6 : M4 q = some (zw_eO (zw_Xw X) cap (va_cpy f (fun _ => none) (0 : Int32).toNatClampNeg (0 : Int32).toNatClampNeg (nI n).toNatClampNeg)) := by rw [eM4]; exact zw_us
  refine zw_aload_n (v := .ref q) (pc' := 39) K dJ9_copyOf_2_38 rfl rfl rfl ?_
  exact zw_aret (r := some q) K hE (Or.inr ⟨_, rfl⟩) dJ9_copyOf_2_39 ⟨Nat.le_of_ble_eq_true rfl, Nat.le_of_ble_eq_true rfl⟩ (⟨q, va_cpy f (fun _ => none) (0 : Int32).toNatClampNeg (0 : Int32).toNatClampNeg (nI n).toNatClampNeg, rfl, hq, fun i hi => by rw [nI_clamp (by omega)]; rw [show (0 : Int32).toNatClampNeg = 0 from rfl]; exact (pk_cpy_in (Nat.zero_le _) (by omega)).trans (by rw [Nat.zero_add, Nat.sub_zero]), by rw [eM4, eM1, zw_uu]⟩)
set_option maxHeartbeats 2000000 in
theorem ct_J9_copyOf {w : zw_W} {l : Launch} (hl : l.stackTraces = false) (M : zw_M) (a n cap : Nat) {f : Nat → Option Nat} (hA : M a = some (zw_eO w n f)) (hel : ∀ i, i < n → ∃ y, f i = some y ∧ zlk M y) (hc : n ≤ cap) (hc2 : cap ≤ 64) : zw_C w l yJ9_copyOf cJ9_copyOf 2 (Option.some (Jvm.ClassFile.FieldType.array (Jvm.ClassFile.FieldType.object "java/lang/Object"))) (zr 3 1 64) [.ref a, .int (nI cap)] M (zw_pr fun r M1 => ∃ (q : Nat) (g : Nat → Option Nat), r = some q ∧ M q = none ∧ (∀ i, i < n → g i = f i) ∧ M1 = zw_u M q (zw_eO w cap g)) zw_no := by
  refine zw_enter RJ9 rfl (by decide) hl (by simp [Value.category]) (Nat.le_of_ble_eq_true rfl) (fun X hXl hXw K hE htab hcon => ?_)
  subst hXl; subst hXw
  show zw_Z X _ 0 0 0 [some (.ref a), some (.int (nI cap))] []
  refine zw_aload_n (v := .ref a) (pc' := 1) K dJ9_copyOf_0 rfl rfl rfl ?_
  refine zw_iload_n (x := nI cap) (pc' := 2) K dJ9_copyOf_1 rfl rfl ?_
  refine zw_aload_n (v := .ref a) (pc' := 3) K dJ9_copyOf_2 rfl rfl rfl ?_
  refine zw_getC (pc' := 6) K hA q327 q891 q890 q328 q341 dJ9_copyOf_3 rfl ⟨Nat.le_of_ble_eq_true rfl, Nat.le_of_ble_eq_true rfl⟩ ?_
  refine zc_J9_300 (rest := []) (c' := 1) (n' := 64) (pc' := 9) K (ct_J9_copyOf_2 hl M a n cap hA hel hc hc2) rfl rfl dJ9_copyOf_6 rfl (Nat.le_of_ble_eq_true rfl) ⟨Nat.le_of_ble_eq_true rfl, Nat.le_of_ble_eq_true rfl⟩ ⟨Nat.le_of_ble_eq_true rfl, Nat.le_of_ble_eq_true rfl, Nat.le_of_ble_eq_true rfl, Nat.le_of_ble_eq_true rfl⟩ (zw_kr fun r M1 h => ?_) zw_kn
  exact zw_aret (r := r) K hE (Or.inr ⟨_, rfl⟩) dJ9_copyOf_9 ⟨Nat.le_of_ble_eq_true rfl, Nat.le_of_ble_eq_true rfl⟩ h
/-- a list that is full -/
def zlf (w : zw_W) (M : zw_M) (arr n : Nat) (f : Nat → Option Nat) : Prop := (n = 0 ∧ arr = zw_k w 5) ∨ (0 < n ∧ n ≤ 40 ∧ M arr = some (zw_eO w n f) ∧ ∀ i, i < n → ∃ y, f i = some y ∧ zlk M y)
theorem zl_len : ∀ n : Fin 41, 0 < n.1 → nI n.1 + (if nI (n.1 + 1) - nI n.1 < nI n.1 >>> (1 &&& 31) then nI n.1 >>> (1 &&& 31) else nI (n.1 + 1) - nI n.1) = nI (n.1 + max 1 (n.1 / 2)) := by decide +kernel
set_option maxHeartbeats 2000000 in
theorem ct_J2_grow_2 {w : zw_W} {la : Launch} (hl : la.stackTraces = false) (M : zw_M) (l n : Nat) {mc : Int32} {arr : Nat} {f : Nat → Option Nat} (hO : M l = some (zw_oL mc arr n)) (hF : zlf w M arr n f) : zw_C w la yJ2_grow_2 cJ2_grow_2 4 (Option.some (Jvm.ClassFile.FieldType.array (Jvm.ClassFile.FieldType.object "java/lang/Object"))) (zr 4 1 64) [.ref l, .int (nI (n + 1))] M (zw_pr fun r M1 => ∃ (q cap : Nat) (g : Nat → Option Nat), r = some q ∧ M q = none ∧ n < cap ∧ cap ≤ 64 ∧ (∀ i, i < n → g i = f i) ∧ M1 = zw_u (zw_u M q (zw_eO w cap g)) l (zw_oL mc q n)) zw_no := by
  refine zw_enter RJ2 rfl (by decide) hl (by simp [Value.category]) (Nat.le_of_ble_eq_true rfl) (fun X hXl hXw K hE htab hcon => ?_)
  subst hXl; subst hXw
  show zw_Z X _ 0 0 0 [some (.ref l), some (.int (nI (n + 1))), none, none] []
  rcases hF with ⟨rfl, rfl⟩ | ⟨hn, hn40, hA, hel⟩
  · refine zw_aload_n (v := .ref l) (pc' := 1) K dJ2_grow_2_0 rfl rfl rfl ?_
    refine zg_J2_9 (v := .ref (zw_k (zw_Xw X) 5)) (pc' := 4) K hO rfl dJ2_grow_2_1 rfl ?_
    refine zw_tlen (pc' := 5) K dJ2_grow_2_4 rfl ?_
    refine zw_istore_n (lv' := [some (.ref l), some (.int (nI (0 + 1))), some (.int 0), none]) (pc' := 6) K dJ2_grow_2_5 (by decide) rfl rfl ?_
    refine zw_iload_n (x := 0) (pc' := 7) K dJ2_grow_2_6 rfl rfl ?_
    refine zw_if_gt (tgt := 20) (pc' := 10) K dJ2_grow_2_7 (by decide) rfl (fun c7 => absurd c7 (by decide)) (fun c7 => ?_)
    refine zw_aload_n (v := .ref l) (pc' := 11) K dJ2_grow_2_10 rfl rfl rfl ?_
    refine zg_J2_9 (v := .ref (zw_k (zw_Xw X) 5)) (pc' := 14) K hO rfl dJ2_grow_2_11 rfl ?_
    refine zw_gets (pc' := 17) K q66 dJ2_grow_2_14 rfl ?_
    refine zw_acmp_eq (rx := some (zw_k (zw_Xw X) 5)) (ry := some (zw_k (zw_Xw X) 5)) (tgt := 45) (pc' := 20) K dJ2_grow_2_17 (by decide) rfl (fun c17 => ?_) (fun c17 => by exact absurd rfl c17)
    refine zw_aload_n (v := .ref l) (pc' := 46) K dJ2_grow_2_45 rfl rfl rfl ?_
    refine zw_bipush (v := 10) (pc' := 48) K dJ2_grow_2_46 (by decide) rfl ?_
    refine zw_iload_n (x := nI (0 + 1)) (pc' := 49) K dJ2_grow_2_48 rfl rfl ?_
    refine zw_max (pc' := 52) K q352 q108 q33 q109 ⟨Nat.le_of_ble_eq_true rfl, Nat.le_of_ble_eq_true rfl, Nat.le_of_ble_eq_true rfl, Nat.le_of_ble_eq_true rfl⟩ dJ2_grow_2_49 rfl ?_
    refine zw_newq (t0 := 3) (N' := 10) (c' := 1) (n' := 64) (pc' := 55) K q353 (fun h => h.2.2.2.2.2.2.2.1.2.1) rfl (by decide) (by decide) (by decide) ⟨Nat.le_of_ble_eq_true rfl, Nat.le_of_ble_eq_true rfl, Nat.le_of_ble_eq_true rfl, Nat.le_of_ble_eq_true rfl⟩ dJ2_grow_2_52 rfl (fun q hq => ?_)
    refine zw_nmM (fun M1 eM1 => ?_)
    have f2 : M1 l = some (zw_eC 5 [.int mc, .ref (zw_k (zw_Xw X) 5), .int (nI 0)]) := by rw [eM1]; exact zw_un' (zw_nn hO hq) hO
    have f3 : M1 q = some (zw_eO (zw_Xw X) 10 (fun _ => none)) := by rw [eM1]; exact zw_us
    refine zw_dup_x1 (pc' := 56) K dJ2_grow_2_55 rfl rfl rfl ?_
    refine zp_J2_9 (v := .ref q) (pc' := 59) K f2 rfl rfl (by simp) dJ2_grow_2_56 rfl ?_
    refine zw_nmM (fun M4 eM4 => ?_)
    have f5 : M4 l = some (zw_eC 5 [.int mc, .ref q, .int (nI 0)]) := by rw [eM4]; exact zw_us
    have f6 : M4 q = some (zw_eO (zw_Xw X) 10 (fun _ => none)) := by rw [eM4]; exact zw_un' (Ne.symm (zw_nn hO hq)) f3
    exact zw_aret (r := some q) K hE (Or.inr ⟨_, rfl⟩) dJ2_grow_2_59 ⟨Nat.le_of_ble_eq_true rfl, Nat.le_of_ble_eq_true rfl⟩ (⟨q, 10, fun _ => none, rfl, hq, by decide, by decide, fun i hi => absurd hi (by omega), by rw [eM4, eM1]; rfl⟩)
  · refine zw_aload_n (v := .ref l) (pc' := 1) K dJ2_grow_2_0 rfl rfl rfl ?_
    refine zg_J2_9 (v := .ref arr) (pc' := 4) K hO rfl dJ2_grow_2_1 rfl ?_
    refine zw_alen (t0 := 3) (v := nI n) (pc' := 5) K hA rfl rfl dJ2_grow_2_4 rfl ?_
    refine zw_istore_n (lv' := [some (.ref l), some (.int (nI (n + 1))), some (.int (nI n)), none]) (pc' := 6) K dJ2_grow_2_5 (by decide) rfl rfl ?_
    refine zw_iload_n (x := nI n) (pc' := 7) K dJ2_grow_2_6 rfl rfl ?_
    refine zw_if_gt (tgt := 20) (pc' := 10) K dJ2_grow_2_7 (by decide) rfl (fun c7 => ?_) (fun c7 => by exact absurd ((nI_lt (a := 0) hn (by omega) : (0 : Int32) < nI n)) c7)
    refine zw_iload_n (x := nI n) (pc' := 21) K dJ2_grow_2_20 rfl rfl ?_
    refine zw_iload_n (x := nI (n + 1)) (pc' := 22) K dJ2_grow_2_21 rfl rfl ?_
    refine zw_iload_n (x := nI n) (pc' := 23) K dJ2_grow_2_22 rfl rfl ?_
    refine zw_isub (pc' := 24) K dJ2_grow_2_23 rfl ?_
    refine zw_iload_n (x := nI n) (pc' := 25) K dJ2_grow_2_24 rfl rfl ?_
    refine zw_iconst (v := 1) (pc' := 26) K dJ2_grow_2_25 (by decide) rfl ?_
    refine zw_ishr (pc' := 27) K dJ2_grow_2_26 rfl ?_
    refine zc_J2_73 (rest := []) (c' := 0) (n' := 0) (pc' := 30) K (ct_J7_newLength hl M _ _ _ _ (zl_len ⟨n, by omega⟩ hn) (nI_lt (a := 0) (by omega) (by omega) : (0 : Int32) < _) ((nI_leI (b := 2147483639) (by omega) (by omega)).mpr (by omega))) rfl rfl dJ2_grow_2_27 rfl (Nat.le_of_ble_eq_true rfl) ⟨Nat.le_of_ble_eq_true rfl, Nat.le_of_ble_eq_true rfl⟩ ⟨Nat.le_of_ble_eq_true rfl, Nat.le_of_ble_eq_true rfl, Nat.le_of_ble_eq_true rfl, Nat.le_of_ble_eq_true rfl⟩ (zw_kp ?_) zw_kn
    refine zw_istore_n (lv' := [some (.ref l), some (.int (nI (n + 1))), some (.int (nI n)), some (.int (nI (n + max 1 (n / 2))))]) (pc' := 31) K dJ2_grow_2_30 (by decide) rfl rfl ?_
    refine zw_aload_n (v := .ref l) (pc' := 32) K dJ2_grow_2_31 rfl rfl rfl ?_
    refine zw_aload_n (v := .ref l) (pc' := 33) K dJ2_grow_2_32 rfl rfl rfl ?_
    refine zg_J2_9 (v := .ref arr) (pc' := 36) K hO rfl dJ2_grow_2_33 rfl ?_
    refine zw_iload_n (x := nI (n + max 1 (n / 2))) (pc' := 37) K dJ2_grow_2_36 rfl rfl ?_
    refine zc_J2_66 (rest := [.ref l]) (c' := 1) (n' := 64) (pc' := 40) K (ct_J9_copyOf hl M arr n (n + max 1 (n / 2)) hA hel (by omega) (by omega)) rfl rfl dJ2_grow_2_37 rfl (Nat.le_of_ble_eq_true rfl) ⟨Nat.le_of_ble_eq_true rfl, Nat.le_of_ble_eq_true rfl⟩ ⟨Nat.le_of_ble_eq_true rfl, Nat.le_of_ble_eq_true rfl, Nat.le_of_ble_eq_true rfl, Nat.le_of_ble_eq_true rfl⟩ (zw_kr fun r M1 h => ?_) zw_kn
    obtain ⟨q, g, rfl, hq, hg, eP⟩ := h
    have hql : l ≠ q := zw_nn hO hq
    have hO1 : M1 l = some (zw_oL mc arr n) := by rw [eP]; exact zw_un' hql hO
    refine zw_dup_x1 (pc' := 41) K dJ2_grow_2_40 rfl rfl rfl ?_
    refine zp_J2_9 (v := .ref q) (pc' := 44) K hO1 rfl rfl (by simp) dJ2_grow_2_41 rfl ?_
    refine zw_nmM (fun M11 eM11 => ?_)
    have f12 : M11 l = some (zw_eC 5 [.int mc, .ref q, .int (nI n)]) := by rw [eM11]; exact zw_us
    exact zw_aret (r := some q) K hE (Or.inr ⟨_, rfl⟩) dJ2_grow_2_44 ⟨Nat.le_of_ble_eq_true rfl, Nat.le_of_ble_eq_true rfl⟩ (⟨q, n + max 1 (n / 2), g, rfl, hq, by omega, by omega, hg, by rw [eM11, eP]; rfl⟩)
set_option maxHeartbeats 2000000 in
theorem ct_J2_grow {w : zw_W} {la : Launch} (hl : la.stackTraces = false) (M : zw_M) (l n : Nat) {mc : Int32} {arr : Nat} {f : Nat → Option Nat} (hO : M l = some (zw_oL mc arr n)) (hF : zlf w M arr n f) : zw_C w la yJ2_grow cJ2_grow 1 (Option.some (Jvm.ClassFile.FieldType.array (Jvm.ClassFile.FieldType.object "java/lang/Object"))) (zr 5 1 64) [.ref l] M (zw_pr fun r M1 => ∃ (q cap : Nat) (g : Nat → Option Nat), r = some q ∧ M q = none ∧ n < cap ∧ cap ≤ 64 ∧ (∀ i, i < n → g i = f i) ∧ M1 = zw_u (zw_u M q (zw_eO w cap g)) l (zw_oL mc q n)) zw_no := by
  refine zw_enter RJ2 rfl (by decide) hl (by simp [Value.category]) (Nat.le_of_ble_eq_true rfl) (fun X hXl hXw K hE htab hcon => ?_)
  subst hXl; subst hXw
  show zw_Z X _ 0 0 0 [some (.ref l)] []
  refine zw_aload_n (v := .ref l) (pc' := 1) K dJ2_grow_0 rfl rfl rfl ?_
  refine zw_aload_n (v := .ref l) (pc' := 2) K dJ2_grow_1 rfl rfl rfl ?_
  refine zg_J2_48 (v := .int (nI n)) (pc' := 5) K hO rfl dJ2_grow_2 rfl ?_
  refine zw_iconst (v := 1) (pc' := 6) K dJ2_grow_5 (by decide) rfl ?_
  refine zw_iadd (pc' := 7) K dJ2_grow_6 rfl ?_
  rw [nI_1]
  refine zc_J2_69 (rest := []) (c' := 1) (n' := 64) (pc' := 10) K (ct_J2_grow_2 hl M l n hO hF) hO rfl rfl dJ2_grow_7 rfl (Nat.le_of_ble_eq_true rfl) ⟨Nat.le_of_ble_eq_true rfl, Nat.le_of_ble_eq_true rfl⟩ ⟨Nat.le_of_ble_eq_true rfl, Nat.le_of_ble_eq_true rfl, Nat.le_of_ble_eq_true rfl, Nat.le_of_ble_eq_true rfl⟩ (zw_kr fun r M1 h => ?_) zw_kn
  exact zw_aret (r := r) K hE (Or.inr ⟨_, rfl⟩) dJ2_grow_10 ⟨Nat.le_of_ble_eq_true rfl, Nat.le_of_ble_eq_true rfl⟩ h
