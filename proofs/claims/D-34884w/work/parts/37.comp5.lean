/-! CartelWatch: suspicionOf, suspicion, sign -/
set_option maxRecDepth 100000
theorem zsign_comm {σ : zS} {t : Nat} {a b : Int32} (h : a ≠ b) : zsign σ t a b = zsign σ t b a := by
  unfold zsign
  rw [Bool.or_comm]
  by_cases h1 : zv σ 1 t = a
  · rw [if_pos h1, if_neg (fun z => h (h1.symm.trans z))]
  · by_cases h2 : zv σ 1 t = b
    · rw [if_neg h1, if_pos h2]
    · have e : (zv σ 0 t == 1 && (zv σ 1 t == b || zv σ 1 t == a)) = false := by
        rw [show (zv σ 1 t == b) = false by simpa using h2, show (zv σ 1 t == a) = false by simpa using h1]; simp
      rw [if_pos e, if_pos e]
theorem zsusp_comm {σ : zS} {a b : Int32} (h : a ≠ b) : zsusp σ a b = zsusp σ b a := by
  unfold zsusp
  exact zf_congr (fun i _ z => by unfold zsuspF; rw [zsign_comm h])
theorem zmm {a b : Nat} (ha : a < 7) (hb : b < 7) (hab : a ≠ b) : (a < b ∧ zs_min (nI a) (nI b) = nI a ∧ zs_max (nI a) (nI b) = nI b) ∨ (b < a ∧ zs_min (nI a) (nI b) = nI b ∧ zs_max (nI a) (nI b) = nI a) := by
  unfold zs_min zs_max
  rcases Nat.lt_or_gt_of_ne hab with h | h
  · exact Or.inl ⟨h, by rw [if_neg (Int32.not_lt.mpr ((nI_leI (by omega) (by omega)).mpr (by omega)))], if_pos (nI_lt h (by omega))⟩
  · exact Or.inr ⟨h, if_pos (nI_lt h (by omega)), by rw [if_neg (Int32.not_lt.mpr ((nI_leI (by omega) (by omega)).mpr (by omega)))]⟩
/-- a pair, whatever its order: the lower, the higher, and what reads them -/
theorem zpair_lh {σ : zS} {x y : Int32} (h : zpair x y = true) : ∃ a b : Nat, a < b ∧ b < 7 ∧ zs_min x y = nI a ∧ zs_max x y = nI b ∧ (∀ t, zsign σ t (nI a) (nI b) = zsign σ t x y) ∧ zsusp σ (nI a) (nI b) = zsusp σ x y := by
  obtain ⟨ja, jb, h1, h2, rfl, rfl, h3⟩ := zpair_of h
  have ne : nI ja ≠ nI jb := fun z => h3 ((nI_eq (by omega) (by omega)).mp z)
  rcases zmm h1 h2 h3 with ⟨q1, q2, q3⟩ | ⟨q1, q2, q3⟩
  · exact ⟨ja, jb, q1, h2, q2, q3, fun _ => rfl, rfl⟩
  · exact ⟨jb, ja, q1, h1, q2, q3, fun _ => zsign_comm (Ne.symm ne), zsusp_comm (Ne.symm ne)⟩
set_option maxHeartbeats 2000000 in
theorem ct_X1_suspicionOf {w : zw_W} {la : Launch} (hl : la.stackTraces = false) {M : zw_M} {ad : Nat → Nat → Nat → Nat} {σ μ : zS} {th : Int32} {o : Int64} (hW : zW w M ad σ μ th o) (hI : zI σ) {p a b : Nat} (ha : a < 7) (hb : b < 7) (hab : a ≠ b) (hP : M p = some (zw_eC 3 [.int (nI a), .int (nI b)])) : zw_C w la yX1_suspicionOf cX1_suspicionOf 4 (Option.some Jvm.ClassFile.FieldType.int) (zr 6 0 0) [.ref (ad 0 0 0), .ref p] M (zw_pi fun r M1 => r = zsusp σ (nI a) (nI b) ∧ M1 = M) zw_no := by
  refine zw_enter RX1 rfl (by decide) hl (by simp [Value.category]) (Nat.le_of_ble_eq_true rfl) (fun X hXl hXw K hE htab hcon => ?_)
  subst hXl; subst hXw
  show zw_Z X _ 0 0 0 [some (.ref (ad 0 0 0)), some (.ref p), none, none] []
  refine zw_iconst (v := 0) (pc' := 1) K dX1_suspicionOf_0 (by decide) rfl ?_
  refine zw_istore_n (lv' := [some (.ref (ad 0 0 0)), some (.ref p), some (.int 0), none]) (pc' := 2) K dX1_suspicionOf_1 (by decide) rfl rfl ?_
  refine zw_iconst (v := 0) (pc' := 3) K dX1_suspicionOf_2 (by decide) rfl ?_
  refine zw_istore_n (lv' := [some (.ref (ad 0 0 0)), some (.ref p), some (.int 0), some (.int 0)]) (pc' := 4) K dX1_suspicionOf_3 (by decide) rfl rfl ?_
  have L4 : ∀ i : Nat, i ≤ zn σ → ∀ (xi : Int32) (acc : Int32), xi = nI i → (acc = zf (zsuspF σ (nI a) (nI b)) i 0) → zw_Z X M 0 0 4 [some (.ref (ad 0 0 0)), some (.ref p), some (.int acc), some (.int xi)] [] := by
    refine zl_up (fun i hi4 ih4 => ?_)
    intro xi acc hxi hacc
    refine zw_iload_n (x := xi) (pc' := 5) K dX1_suspicionOf_4 rfl rfl ?_
    refine zw_aload_n (v := .ref (ad 0 0 0)) (pc' := 6) K dX1_suspicionOf_5 rfl rfl rfl ?_
    refine zg_X1_26 (v := .ref (ad 1 0 0)) (pc' := 9) K hW.c0 rfl dX1_suspicionOf_6 rfl ?_
    refine zc_X1_1 (rest := [.int xi]) (c' := 0) (n' := 0) (pc' := 14) K (ct_J2_size hl M (ad 1 0 0) hW.c1) hW.c1 rfl rfl dX1_suspicionOf_9 rfl (Nat.le_of_ble_eq_true rfl) ⟨Nat.le_of_ble_eq_true rfl, Nat.le_of_ble_eq_true rfl⟩ ⟨Nat.le_of_ble_eq_true rfl, Nat.le_of_ble_eq_true rfl, Nat.le_of_ble_eq_true rfl, Nat.le_of_ble_eq_true rfl⟩ (zw_kp ?_) zw_kn
    refine zw_icmp_ge (tgt := 32) (pc' := 17) K dX1_suspicionOf_14 (by decide) rfl (fun c14 => ?_) (fun c14 => ?_)
    · have hend4 : i = zn σ := zi_ge hxi rfl hi4 (by have := hI.n; omega) c14
      refine zw_iload_n (x := acc) (pc' := 33) K dX1_suspicionOf_32 rfl rfl ?_
      exact zw_iret K hE dX1_suspicionOf_33 ⟨Nat.le_of_ble_eq_true rfl, Nat.le_of_ble_eq_true rfl⟩ (⟨by rw [hacc, hend4]; rfl, rfl⟩)
    · have hlt4 : i < zn σ := zi_lt hxi rfl hi4 (by have := hI.n; omega) c14
      refine zw_iload_n (x := acc) (pc' := 18) K dX1_suspicionOf_17 rfl rfl ?_
      subst hxi
      refine zw_aload_n (v := .ref (ad 0 0 0)) (pc' := 19) K dX1_suspicionOf_18 rfl rfl rfl ?_
      refine zw_iload_n (x := (nI i)) (pc' := 20) K dX1_suspicionOf_19 rfl rfl ?_
      refine zw_aload_n (v := .ref p) (pc' := 21) K dX1_suspicionOf_20 rfl rfl rfl ?_
      refine zc_X1_156 (rest := [.int acc]) (c' := 0) (n' := 0) (pc' := 24) K (ct_X1_signOf hl hW hI i hlt4 ha hb hab hP) hW.c0 rfl rfl dX1_suspicionOf_21 rfl (Nat.le_of_ble_eq_true rfl) ⟨Nat.le_of_ble_eq_true rfl, Nat.le_of_ble_eq_true rfl⟩ ⟨Nat.le_of_ble_eq_true rfl, Nat.le_of_ble_eq_true rfl, Nat.le_of_ble_eq_true rfl, Nat.le_of_ble_eq_true rfl⟩ (zw_kp ?_) zw_kn
      refine zw_iadd (pc' := 25) K dX1_suspicionOf_24 rfl ?_
      refine zw_istore_n (lv' := [some (.ref (ad 0 0 0)), some (.ref p), some (.int (acc + (zsign σ i (nI a) (nI b)))), some (.int (nI i))]) (pc' := 26) K dX1_suspicionOf_25 (by decide) rfl rfl ?_
      refine zw_iinc (x := (nI i)) (lv' := [some (.ref (ad 0 0 0)), some (.ref p), some (.int (acc + (zsign σ i (nI a) (nI b)))), some (.int ((nI i) + 1))]) (pc' := 29) K dX1_suspicionOf_26 rfl (by decide) rfl rfl ?_
      refine zw_goto (tgt := 4) K dX1_suspicionOf_29 (by decide) ?_
      exact ih4 hlt4 ((nI i) + 1) (acc + (zsign σ i (nI a) (nI b))) (nI_1 i) (by rw [zf_s, ← hacc]; rfl)
  exact L4 0 (Nat.zero_le _) 0 0 rfl rfl
set_option maxHeartbeats 2000000 in
theorem ct_X1_suspicion {w : zw_W} {la : Launch} (hl : la.stackTraces = false) {M : zw_M} {ad : Nat → Nat → Nat → Nat} {σ μ : zS} {th : Int32} {o : Int64} (hW : zW w M ad σ μ th o) (hI : zI σ) (x y : Int32) : zw_C w la yX1_suspicion cX1_suspicion 3 (Option.some Jvm.ClassFile.FieldType.int) (zr 9 3 18) [.ref (ad 0 0 0), .int x, .int y] M (zw_pi (zPo w ad μ th o (zop_suspicion σ x y))) (zPx ["java/lang/IllegalArgumentException"] w ad σ μ th o (zop_suspicion σ x y)) := by
  refine zw_enter RX1 rfl (by decide) hl (by simp [Value.category]) (Nat.le_of_ble_eq_true rfl) (fun X hXl hXw K hE htab hcon => ?_)
  subst hXl; subst hXw
  show zw_Z X _ 0 0 0 [some (.ref (ad 0 0 0)), some (.int x), some (.int y)] []
  refine zw_aload_n (v := .ref (ad 0 0 0)) (pc' := 1) K dX1_suspicion_0 rfl rfl rfl ?_
  refine zw_iload_n (x := x) (pc' := 2) K dX1_suspicion_1 rfl rfl ?_
  refine zw_iload_n (x := y) (pc' := 3) K dX1_suspicion_2 rfl rfl ?_
  refine zc_X1_159 (rest := [.ref (ad 0 0 0)]) (c' := 3) (n' := 18) (pc' := 6) K (ct_X1_pair hl M x y) rfl rfl dX1_suspicion_3 rfl (Nat.le_of_ble_eq_true rfl) ⟨Nat.le_of_ble_eq_true rfl, Nat.le_of_ble_eq_true rfl⟩ ⟨Nat.le_of_ble_eq_true rfl, Nat.le_of_ble_eq_true rfl, Nat.le_of_ble_eq_true rfl, Nat.le_of_ble_eq_true rfl⟩ (zw_kr fun r M1 h => ?_) (fun E M1 h => ?_)
  · obtain ⟨h2, p, hr, hp0, eP⟩ := h
    subst hr
    obtain ⟨a, b, hab, hb, hmin, hmax, hsg, hsu⟩ := zpair_lh (σ := σ) h2
    rw [hmin, hmax] at eP
    have hP : M1 p = some (zw_eC 3 [.int (nI a), .int (nI b)]) := by rw [eP]; exact zw_us
    have hW1 : zW (zw_Xw X) M1 ad σ μ th o := by rw [eP]; exact hW.keep (fun c e he => zw_un' (zw_nn he hp0) he)
    refine zc_X1_163 (rest := []) (c' := 3) (n' := 18) (pc' := 9) K (ct_X1_suspicionOf hl hW1 hI (Nat.lt_trans hab hb) hb (Nat.ne_of_lt hab) hP) hW1.c0 rfl rfl dX1_suspicion_6 rfl (Nat.le_of_ble_eq_true rfl) ⟨Nat.le_of_ble_eq_true rfl, Nat.le_of_ble_eq_true rfl⟩ ⟨Nat.le_of_ble_eq_true rfl, Nat.le_of_ble_eq_true rfl, Nat.le_of_ble_eq_true rfl, Nat.le_of_ble_eq_true rfl⟩ (zw_kp ?_) zw_kn
    exact zw_iret K hE dX1_suspicion_9 ⟨Nat.le_of_ble_eq_true rfl, Nat.le_of_ble_eq_true rfl⟩ (zPo.mk (by unfold zop_suspicion; rw [if_pos h2, hsu]) hW1.x)
  · obtain ⟨h0, h2, hM⟩ := h
    have hM := hM.symm
    subst h0; subst hM
    exact zw_out K hE htab ⟨Nat.le_of_ble_eq_true rfl, Nat.le_of_ble_eq_true rfl⟩ (zPx.mk 0 (c := 1) (by simp [zop_suspicion, h2]) (by decide) rfl hW)
set_option maxHeartbeats 2000000 in
theorem ct_X1_sign {w : zw_W} {la : Launch} (hl : la.stackTraces = false) {M : zw_M} {ad : Nat → Nat → Nat → Nat} {σ μ : zS} {th : Int32} {o : Int64} (hW : zW w M ad σ μ th o) (hI : zI σ) (t x y : Int32) : zw_C w la yX1_sign cX1_sign 4 (Option.some Jvm.ClassFile.FieldType.int) (zr 9 4 24) [.ref (ad 0 0 0), .int t, .int x, .int y] M (zw_pi (zPo w ad μ th o (zop_sign σ t x y))) (zPx ["java/lang/IndexOutOfBoundsException", "java/lang/IllegalArgumentException"] w ad σ μ th o (zop_sign σ t x y)) := by
  refine zw_enter RX1 rfl (by decide) hl (by simp [Value.category]) (Nat.le_of_ble_eq_true rfl) (fun X hXl hXw K hE htab hcon => ?_)
  subst hXl; subst hXw
  show zw_Z X _ 0 0 0 [some (.ref (ad 0 0 0)), some (.int t), some (.int x), some (.int y)] []
  refine zw_aload_n (v := .ref (ad 0 0 0)) (pc' := 1) K dX1_sign_0 rfl rfl rfl ?_
  refine zg_X1_26 (v := .ref (ad 1 0 0)) (pc' := 4) K hW.c0 rfl dX1_sign_1 rfl ?_
  refine zw_iload_n (x := t) (pc' := 5) K dX1_sign_4 rfl rfl ?_
  refine zc_X1_86 (rest := []) (c' := 1) (n' := 6) (pc' := 8) K (ct_X1_at hl M (ad 1 0 0) (zn σ) t hW.c1 (by have := hI.n; omega)) rfl rfl dX1_sign_5 rfl (Nat.le_of_ble_eq_true rfl) ⟨Nat.le_of_ble_eq_true rfl, Nat.le_of_ble_eq_true rfl⟩ ⟨Nat.le_of_ble_eq_true rfl, Nat.le_of_ble_eq_true rfl, Nat.le_of_ble_eq_true rfl, Nat.le_of_ble_eq_true rfl⟩ (zw_kr fun r M1 h => ?_) (fun E M1 h => ?_)
  · obtain ⟨hr, h1, hM⟩ := h
    have hM := hM.symm
    subst hM
    obtain ⟨j, hj, ej⟩ := zin_of h1 (by have := hI.n; omega)
    subst ej
    have hr : r = some (ad 10 j 0) := by rw [hr, zx_n (by have := hI.n; omega)]
    subst hr
    refine zw_pop (pc' := 9) K dX1_sign_8 rfl rfl ?_
    refine zw_aload_n (v := .ref (ad 0 0 0)) (pc' := 10) K dX1_sign_9 rfl rfl rfl ?_
    refine zw_iload_n (x := (nI j)) (pc' := 11) K dX1_sign_10 rfl rfl ?_
    refine zw_iload_n (x := x) (pc' := 12) K dX1_sign_11 rfl rfl ?_
    refine zw_iload_n (x := y) (pc' := 13) K dX1_sign_12 rfl rfl ?_
    refine zc_X1_159 (rest := [.int (nI j), .ref (ad 0 0 0)]) (c' := 4) (n' := 24) (pc' := 16) K (ct_X1_pair hl M x y) rfl rfl dX1_sign_13 rfl (Nat.le_of_ble_eq_true rfl) ⟨Nat.le_of_ble_eq_true rfl, Nat.le_of_ble_eq_true rfl⟩ ⟨Nat.le_of_ble_eq_true rfl, Nat.le_of_ble_eq_true rfl, Nat.le_of_ble_eq_true rfl, Nat.le_of_ble_eq_true rfl⟩ (zw_kr fun r M1 h => ?_) (fun E M1 h => ?_)
    · obtain ⟨h2, p, hr, hp0, eP⟩ := h
      subst hr
      obtain ⟨a, b, hab, hb, hmin, hmax, hsg, hsu⟩ := zpair_lh (σ := σ) h2
      rw [hmin, hmax] at eP
      have hP : M1 p = some (zw_eC 3 [.int (nI a), .int (nI b)]) := by rw [eP]; exact zw_us
      have hW1 : zW (zw_Xw X) M1 ad σ μ th o := by rw [eP]; exact hW.keep (fun c e he => zw_un' (zw_nn he hp0) he)
      refine zc_X1_156 (rest := []) (c' := 4) (n' := 24) (pc' := 19) K (ct_X1_signOf hl hW1 hI j hj (Nat.lt_trans hab hb) hb (Nat.ne_of_lt hab) hP) hW1.c0 rfl rfl dX1_sign_16 rfl (Nat.le_of_ble_eq_true rfl) ⟨Nat.le_of_ble_eq_true rfl, Nat.le_of_ble_eq_true rfl⟩ ⟨Nat.le_of_ble_eq_true rfl, Nat.le_of_ble_eq_true rfl, Nat.le_of_ble_eq_true rfl, Nat.le_of_ble_eq_true rfl⟩ (zw_kp ?_) zw_kn
      exact zw_iret K hE dX1_sign_19 ⟨Nat.le_of_ble_eq_true rfl, Nat.le_of_ble_eq_true rfl⟩ (zPo.mk (by unfold zop_sign; rw [if_neg (by simp [h1]), if_pos h2, zx_n (by have := hI.n; omega), hsg]) hW1.x)
    · obtain ⟨h0, h2, hM⟩ := h
      have hM := hM.symm
      subst h0; subst hM
      exact zw_out K hE htab ⟨Nat.le_of_ble_eq_true rfl, Nat.le_of_ble_eq_true rfl⟩ (zPx.mk 1 (c := 2) (by simp [zop_sign, h1, h2]) (by decide) rfl hW)
  · obtain ⟨h0, h1, hM⟩ := h
    have hM := hM.symm
    subst h0; subst hM
    exact zw_out K hE htab ⟨Nat.le_of_ble_eq_true rfl, Nat.le_of_ble_eq_true rfl⟩ (zPx.mk 0 (c := 1) (by simp [zop_sign, h1]) (by decide) rfl hW)
