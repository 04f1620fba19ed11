/-! CartelWatch: the lambdas, sum, turnoverOf -/
set_option maxRecDepth 100000
set_option maxHeartbeats 2000000 in
theorem ct_X1_lambda_turnoverOf_0 {w : zw_W} {l : Launch} (hl : l.stackTraces = false) (M : zw_M) (t : Nat) {op wi pa pt : Int32} {s g : Nat → Int32} (h : zt_T w M t op wi pa pt s g) (x : Int32) (hx : ¬ x = -1) (hw : wi = -1 ∨ ∃ j, j < 7 ∧ wi = nI j ∧ 0 < s j) : zw_C w l yX1_lambda_turnoverOf_0 cX1_lambda_turnoverOf_0 2 (Option.some Jvm.ClassFile.FieldType.int) (zr 3 0 0) [.int x, .ref t] M (zw_pi fun r M1 => r = (if wi = x then s wi.toNatClampNeg - pt else 0) + (if pa = x then pt else 0) ∧ M1 = M) zw_no := by
  have h9 := h
  obtain ⟨bs, f, hT, hB, hb⟩ := h9
  refine zw_enter RX1 rfl (by decide) hl (by simp [Value.category]) (Nat.le_of_ble_eq_true rfl) (fun X hXl hXw K hE htab hcon => ?_)
  subst hXl; subst hXw
  show zw_Z X _ 0 0 0 [some (.int x), some (.ref t)] []
  refine zw_aload_n (v := .ref t) (pc' := 1) K dX1_lambda_turnoverOf_0_0 rfl rfl rfl ?_
  refine zw_iload_n (x := x) (pc' := 2) K dX1_lambda_turnoverOf_0_1 rfl rfl ?_
  refine zc_X1_227 (rest := []) (c' := 0) (n' := 0) (pc' := 5) K (ct_X3_turnover hl M t h x hx hw) hT rfl rfl dX1_lambda_turnoverOf_0_2 rfl (Nat.le_of_ble_eq_true rfl) ⟨Nat.le_of_ble_eq_true rfl, Nat.le_of_ble_eq_true rfl⟩ ⟨Nat.le_of_ble_eq_true rfl, Nat.le_of_ble_eq_true rfl, Nat.le_of_ble_eq_true rfl, Nat.le_of_ble_eq_true rfl⟩ (zw_kp ?_) zw_kn
  exact zw_iret K hE dX1_lambda_turnoverOf_0_5 ⟨Nat.le_of_ble_eq_true rfl, Nat.le_of_ble_eq_true rfl⟩ (⟨rfl, rfl⟩)
set_option maxHeartbeats 2000000 in
theorem ct_X1_lambda_won_1 {w : zw_W} {l : Launch} (hl : l.stackTraces = false) (M : zw_M) (t : Nat) {op wi pa pt : Int32} {s g : Nat → Int32} (h : zt_T w M t op wi pa pt s g) (x : Int32) : zw_C w l yX1_lambda_won_1 cX1_lambda_won_1 2 (Option.some Jvm.ClassFile.FieldType.int) (zr 3 0 0) [.int x, .ref t] M (zw_pi fun r M1 => r = zb (wi == x) ∧ M1 = M) zw_no := by
  obtain ⟨bs, f, hT, hB, hb⟩ := h
  refine zw_enter RX1 rfl (by decide) hl (by simp [Value.category]) (Nat.le_of_ble_eq_true rfl) (fun X hXl hXw K hE htab hcon => ?_)
  subst hXl; subst hXw
  show zw_Z X _ 0 0 0 [some (.int x), some (.ref t)] []
  refine zw_aload_n (v := .ref t) (pc' := 1) K dX1_lambda_won_1_0 rfl rfl rfl ?_
  refine zg_X1_117 (v := .int wi) (pc' := 4) K hT rfl dX1_lambda_won_1_1 rfl ?_
  refine zw_iload_n (x := x) (pc' := 5) K dX1_lambda_won_1_4 rfl rfl ?_
  refine zw_icmp_ne (tgt := 12) (pc' := 8) K dX1_lambda_won_1_5 (by decide) rfl (fun c5 => ?_) (fun c5 => ?_)
  · refine zw_iconst (v := 0) (pc' := 13) K dX1_lambda_won_1_12 (by decide) rfl ?_
    exact zw_iret K hE dX1_lambda_won_1_13 ⟨Nat.le_of_ble_eq_true rfl, Nat.le_of_ble_eq_true rfl⟩ (⟨by simp [zb, c5], rfl⟩)
  · refine zw_iconst (v := 1) (pc' := 9) K dX1_lambda_won_1_8 (by decide) rfl ?_
    refine zw_goto (tgt := 13) K dX1_lambda_won_1_9 (by decide) ?_
    exact zw_iret K hE dX1_lambda_won_1_13 ⟨Nat.le_of_ble_eq_true rfl, Nat.le_of_ble_eq_true rfl⟩ (⟨by simp [zb, c5], rfl⟩)
set_option maxHeartbeats 2000000 in
theorem ct_X1_lambda_file_2 {w : zw_W} {l : Launch} (hl : l.stackTraces = false) (M : zw_M) (t : Nat) (x y : Int32) {p ms ts tl fi : Nat} {fst cl lo hi : Int32} (hA : M t = some (zw_eC 4 [.ref p, .ref ms, .ref ts, .ref tl, .ref fi, .int fst, .int cl])) (hp : M p = some (zw_eC 3 [.int lo, .int hi])) : zw_C w l yX1_lambda_file_2 cX1_lambda_file_2 3 (Option.some Jvm.ClassFile.FieldType.int) (zr 3 0 0) [.int x, .int y, .ref t] M (zw_pi fun r M1 => r = zb ((x == lo || x == hi) && (y == lo || y == hi)) ∧ M1 = M) zw_no := by
  refine zw_enter RX1 rfl (by decide) hl (by simp [Value.category]) (Nat.le_of_ble_eq_true rfl) (fun X hXl hXw K hE htab hcon => ?_)
  subst hXl; subst hXw
  show zw_Z X _ 0 0 0 [some (.int x), some (.int y), some (.ref t)] []
  refine zw_aload_n (v := .ref t) (pc' := 1) K dX1_lambda_file_2_0 rfl rfl rfl ?_
  refine zg_X1_184 (v := .ref p) (pc' := 4) K hA rfl dX1_lambda_file_2_1 rfl ?_
  refine zw_iload_n (x := x) (pc' := 5) K dX1_lambda_file_2_4 rfl rfl ?_
  refine zc_X1_143 (rest := []) (c' := 0) (n' := 0) (pc' := 8) K (ct_X5_has hl M p lo hi x hp) hp rfl rfl dX1_lambda_file_2_5 rfl (Nat.le_of_ble_eq_true rfl) ⟨Nat.le_of_ble_eq_true rfl, Nat.le_of_ble_eq_true rfl⟩ ⟨Nat.le_of_ble_eq_true rfl, Nat.le_of_ble_eq_true rfl, Nat.le_of_ble_eq_true rfl, Nat.le_of_ble_eq_true rfl⟩ (zw_kp ?_) zw_kn
  refine zw_if_eq (tgt := 26) (pc' := 11) K dX1_lambda_file_2_8 (by decide) rfl (fun c8 => ?_) (fun c8 => ?_)
  · have c8 := zb_0.mp c8
    refine zw_iconst (v := 0) (pc' := 27) K dX1_lambda_file_2_26 (by decide) rfl ?_
    exact zw_iret K hE dX1_lambda_file_2_27 ⟨Nat.le_of_ble_eq_true rfl, Nat.le_of_ble_eq_true rfl⟩ (⟨by simp only [c8]; rfl, rfl⟩)
  · have c8 := zb_nz.mp c8
    refine zw_aload_n (v := .ref t) (pc' := 12) K dX1_lambda_file_2_11 rfl rfl rfl ?_
    refine zg_X1_184 (v := .ref p) (pc' := 15) K hA rfl dX1_lambda_file_2_12 rfl ?_
    refine zw_iload_n (x := y) (pc' := 16) K dX1_lambda_file_2_15 rfl rfl ?_
    refine zc_X1_143 (rest := []) (c' := 0) (n' := 0) (pc' := 19) K (ct_X5_has hl M p lo hi y hp) hp rfl rfl dX1_lambda_file_2_16 rfl (Nat.le_of_ble_eq_true rfl) ⟨Nat.le_of_ble_eq_true rfl, Nat.le_of_ble_eq_true rfl⟩ ⟨Nat.le_of_ble_eq_true rfl, Nat.le_of_ble_eq_true rfl, Nat.le_of_ble_eq_true rfl, Nat.le_of_ble_eq_true rfl⟩ (zw_kp ?_) zw_kn
    refine zw_if_eq (tgt := 26) (pc' := 22) K dX1_lambda_file_2_19 (by decide) rfl (fun c19 => ?_) (fun c19 => ?_)
    · have c19 := zb_0.mp c19
      refine zw_iconst (v := 0) (pc' := 27) K dX1_lambda_file_2_26 (by decide) rfl ?_
      exact zw_iret K hE dX1_lambda_file_2_27 ⟨Nat.le_of_ble_eq_true rfl, Nat.le_of_ble_eq_true rfl⟩ (⟨by simp only [c8, c19]; rfl, rfl⟩)
    · have c19 := zb_nz.mp c19
      refine zw_iconst (v := 1) (pc' := 23) K dX1_lambda_file_2_22 (by decide) rfl ?_
      refine zw_goto (tgt := 27) K dX1_lambda_file_2_23 (by decide) ?_
      exact zw_iret K hE dX1_lambda_file_2_27 ⟨Nat.le_of_ble_eq_true rfl, Nat.le_of_ble_eq_true rfl⟩ (⟨by simp only [c8, c19]; rfl, rfl⟩)
set_option maxHeartbeats 2000000 in
theorem ct_X1_sum0 {w : zw_W} {la : Launch} (hl : la.stackTraces = false) (M : zw_M) (l f n : Nat) {a : Int32} {el : Nat → Nat} (val : Nat → Int32) (hL : M l = some (zw_eL n el)) (hf : M f = some (.inl (.inl (zw_k w (20 + 0), 1, .inl (fun _ => a))))) (hn : n < 2 ^ 31) (hb : ∀ j, j < n → ∃ fs : List Value, M (el j) = some (zw_eC 1 fs)) (hc : ∀ j, j < n → zw_C w la yX1_lambda_turnoverOf_0 cX1_lambda_turnoverOf_0 2 (some .int) (zr 3 0 0) [.int a, .ref (el j)] M (zw_pi fun r M1 => r = val j ∧ M1 = M) zw_no) : zw_C w la yX1_sum cX1_sum 4 (Option.some Jvm.ClassFile.FieldType.int) (zr 5 0 0) [.ref l, .ref f] M (zw_pi fun r M1 => r = zf (fun j z => z + val j) n 0 ∧ M1 = M) zw_no := by
  refine zw_enter RX1 rfl (by decide) hl (by simp [Value.category]) (Nat.le_of_ble_eq_true rfl) (fun X hXl hXw K hE htab hcon => ?_)
  subst hXl; subst hXw
  show zw_Z X _ 0 0 0 [some (.ref l), some (.ref f), none, none] []
  refine zw_iconst (v := 0) (pc' := 1) K dX1_sum_0 (by decide) rfl ?_
  refine zw_istore_n (lv' := [some (.ref l), some (.ref f), some (.int 0), none]) (pc' := 2) K dX1_sum_1 (by decide) rfl rfl ?_
  refine zw_iconst (v := 0) (pc' := 3) K dX1_sum_2 (by decide) rfl ?_
  refine zw_istore_n (lv' := [some (.ref l), some (.ref f), some (.int 0), some (.int 0)]) (pc' := 4) K dX1_sum_3 (by decide) rfl rfl ?_
  have L4 : ∀ j : Nat, j ≤ n → ∀ (xi : Int32) (acc : Int32), xi = nI j → (acc = zf (fun j z => z + val j) j 0) → zw_Z X M 0 0 4 [some (.ref l), some (.ref f), some (.int acc), some (.int xi)] [] := by
    refine zl_up (fun j hi4 ih4 => ?_)
    intro xi acc hxi hacc
    refine zw_iload_n (x := xi) (pc' := 5) K dX1_sum_4 rfl rfl ?_
    refine zw_aload_n (v := .ref l) (pc' := 6) K dX1_sum_5 rfl rfl rfl ?_
    refine zc_X1_1 (rest := [.int xi]) (c' := 0) (n' := 0) (pc' := 11) K (ct_J2_size hl M l hL) hL rfl rfl dX1_sum_6 rfl (Nat.le_of_ble_eq_true rfl) ⟨Nat.le_of_ble_eq_true rfl, Nat.le_of_ble_eq_true rfl⟩ ⟨Nat.le_of_ble_eq_true rfl, Nat.le_of_ble_eq_true rfl, Nat.le_of_ble_eq_true rfl, Nat.le_of_ble_eq_true rfl⟩ (zw_kp ?_) zw_kn
    refine zw_icmp_ge (tgt := 36) (pc' := 14) K dX1_sum_11 (by decide) rfl (fun c11 => ?_) (fun c11 => ?_)
    · have hend4 : j = n := zi_ge hxi rfl hi4 hn c11
      refine zw_iload_n (x := acc) (pc' := 37) K dX1_sum_36 rfl rfl ?_
      exact zw_iret K hE dX1_sum_37 ⟨Nat.le_of_ble_eq_true rfl, Nat.le_of_ble_eq_true rfl⟩ (⟨by rw [hacc, hend4], rfl⟩)
    · have hlt4 : j < n := zi_lt hxi rfl hi4 hn c11
      refine zw_iload_n (x := acc) (pc' := 15) K dX1_sum_14 rfl rfl ?_
      refine zw_aload_n (v := .ref f) (pc' := 16) K dX1_sum_15 rfl rfl rfl ?_
      refine zw_aload_n (v := .ref l) (pc' := 17) K dX1_sum_16 rfl rfl rfl ?_
      refine zw_iload_n (x := xi) (pc' := 18) K dX1_sum_17 rfl rfl ?_
      subst hxi
      obtain ⟨fs9, hx9⟩ := hb j hlt4
      refine zc_X1_7 (rest := [.ref f, .int acc]) (c' := 0) (n' := 0) (pc' := 23) K (ct_J2_get hl M l j hL hlt4) hL rfl rfl dX1_sum_18 rfl (Nat.le_of_ble_eq_true rfl) ⟨Nat.le_of_ble_eq_true rfl, Nat.le_of_ble_eq_true rfl⟩ ⟨Nat.le_of_ble_eq_true rfl, Nat.le_of_ble_eq_true rfl, Nat.le_of_ble_eq_true rfl, Nat.le_of_ble_eq_true rfl⟩ (zw_kpr ?_) zw_kn
      refine zw_callL1 (i := 0) (y := yX1_lambda_turnoverOf_0) (bytes := cX1_lambda_turnoverOf_0) (maxL := 2) (rc := zr 3 0 0) (c' := 0) (n' := 0) (pc' := 28) (ci0 := 1) K (hc j hlt4) rfl ⟨rfl, rfl, by decide +kernel⟩ (fun U B hT hO => zm_at0 hT hO) zm0_d0 zm0_d1 zm0_d4 zm0_d5 zm0_d8 zm0_d11 q490 q479 q22 q480 ⟨by decide, by decide⟩ (sig := ⟨[.int, .object "CartelWatch$Tender"], some .int⟩) (by decide +kernel) rfl rfl hx9 hf dX1_sum_23 rfl (Nat.le_of_ble_eq_true rfl) ⟨Nat.le_of_ble_eq_true rfl, Nat.le_of_ble_eq_true rfl⟩ ⟨Nat.le_of_ble_eq_true rfl, Nat.le_of_ble_eq_true rfl, Nat.le_of_ble_eq_true rfl, Nat.le_of_ble_eq_true rfl⟩ (fun r M1 h => ?_)
      obtain ⟨rfl, rfl⟩ := h
      refine zw_iadd (pc' := 29) K dX1_sum_28 rfl ?_
      refine zw_istore_n (lv' := [some (.ref l), some (.ref f), some (.int (acc + (val j))), some (.int (nI j))]) (pc' := 30) K dX1_sum_29 (by decide) rfl rfl ?_
      refine zw_iinc (x := (nI j)) (lv' := [some (.ref l), some (.ref f), some (.int (acc + (val j))), some (.int ((nI j) + 1))]) (pc' := 33) K dX1_sum_30 rfl (by decide) rfl rfl ?_
      refine zw_goto (tgt := 4) K dX1_sum_33 (by decide) ?_
      exact ih4 hlt4 ((nI j) + 1) (acc + (val j)) (nI_1 j) (by rw [zf_s, ← hacc])
  exact L4 0 (Nat.zero_le _) 0 0 rfl rfl
set_option maxHeartbeats 2000000 in
theorem ct_X1_sum1 {w : zw_W} {la : Launch} (hl : la.stackTraces = false) (M : zw_M) (l f n : Nat) {a : Int32} {el : Nat → Nat} (val : Nat → Int32) (hL : M l = some (zw_eL n el)) (hf : M f = some (.inl (.inl (zw_k w (20 + 1), 1, .inl (fun _ => a))))) (hn : n < 2 ^ 31) (hb : ∀ j, j < n → ∃ fs : List Value, M (el j) = some (zw_eC 1 fs)) (hc : ∀ j, j < n → zw_C w la yX1_lambda_won_1 cX1_lambda_won_1 2 (some .int) (zr 3 0 0) [.int a, .ref (el j)] M (zw_pi fun r M1 => r = val j ∧ M1 = M) zw_no) : zw_C w la yX1_sum cX1_sum 4 (Option.some Jvm.ClassFile.FieldType.int) (zr 5 0 0) [.ref l, .ref f] M (zw_pi fun r M1 => r = zf (fun j z => z + val j) n 0 ∧ M1 = M) zw_no := by
  refine zw_enter RX1 rfl (by decide) hl (by simp [Value.category]) (Nat.le_of_ble_eq_true rfl) (fun X hXl hXw K hE htab hcon => ?_)
  subst hXl; subst hXw
  show zw_Z X _ 0 0 0 [some (.ref l), some (.ref f), none, none] []
  refine zw_iconst (v := 0) (pc' := 1) K dX1_sum_0 (by decide) rfl ?_
  refine zw_istore_n (lv' := [some (.ref l), some (.ref f), some (.int 0), none]) (pc' := 2) K dX1_sum_1 (by decide) rfl rfl ?_
  refine zw_iconst (v := 0) (pc' := 3) K dX1_sum_2 (by decide) rfl ?_
  refine zw_istore_n (lv' := [some (.ref l), some (.ref f), some (.int 0), some (.int 0)]) (pc' := 4) K dX1_sum_3 (by decide) rfl rfl ?_
  have L4 : ∀ j : Nat, j ≤ n → ∀ (xi : Int32) (acc : Int32), xi = nI j → (acc = zf (fun j z => z + val j) j 0) → zw_Z X M 0 0 4 [some (.ref l), some (.ref f), some (.int acc), some (.int xi)] [] := by
    refine zl_up (fun j hi4 ih4 => ?_)
    intro xi acc hxi hacc
    refine zw_iload_n (x := xi) (pc' := 5) K dX1_sum_4 rfl rfl ?_
    refine zw_aload_n (v := .ref l) (pc' := 6) K dX1_sum_5 rfl rfl rfl ?_
    refine zc_X1_1 (rest := [.int xi]) (c' := 0) (n' := 0) (pc' := 11) K (ct_J2_size hl M l hL) hL rfl rfl dX1_sum_6 rfl (Nat.le_of_ble_eq_true rfl) ⟨Nat.le_of_ble_eq_true rfl, Nat.le_of_ble_eq_true rfl⟩ ⟨Nat.le_of_ble_eq_true rfl, Nat.le_of_ble_eq_true rfl, Nat.le_of_ble_eq_true rfl, Nat.le_of_ble_eq_true rfl⟩ (zw_kp ?_) zw_kn
    refine zw_icmp_ge (tgt := 36) (pc' := 14) K dX1_sum_11 (by decide) rfl (fun c11 => ?_) (fun c11 => ?_)
    · have hend4 : j = n := zi_ge hxi rfl hi4 hn c11
      refine zw_iload_n (x := acc) (pc' := 37) K dX1_sum_36 rfl rfl ?_
      exact zw_iret K hE dX1_sum_37 ⟨Nat.le_of_ble_eq_true rfl, Nat.le_of_ble_eq_true rfl⟩ (⟨by rw [hacc, hend4], rfl⟩)
    · have hlt4 : j < n := zi_lt hxi rfl hi4 hn c11
      refine zw_iload_n (x := acc) (pc' := 15) K dX1_sum_14 rfl rfl ?_
      refine zw_aload_n (v := .ref f) (pc' := 16) K dX1_sum_15 rfl rfl rfl ?_
      refine zw_aload_n (v := .ref l) (pc' := 17) K dX1_sum_16 rfl rfl rfl ?_
      refine zw_iload_n (x := xi) (pc' := 18) K dX1_sum_17 rfl rfl ?_
      subst hxi
      obtain ⟨fs9, hx9⟩ := hb j hlt4
      refine zc_X1_7 (rest := [.ref f, .int acc]) (c' := 0) (n' := 0) (pc' := 23) K (ct_J2_get hl M l j hL hlt4) hL rfl rfl dX1_sum_18 rfl (Nat.le_of_ble_eq_true rfl) ⟨Nat.le_of_ble_eq_true rfl, Nat.le_of_ble_eq_true rfl⟩ ⟨Nat.le_of_ble_eq_true rfl, Nat.le_of_ble_eq_true rfl, Nat.le_of_ble_eq_true rfl, Nat.le_of_ble_eq_true rfl⟩ (zw_kpr ?_) zw_kn
      refine zw_callL1 (i := 1) (y := yX1_lambda_won_1) (bytes := cX1_lambda_won_1) (maxL := 2) (rc := zr 3 0 0) (c' := 0) (n' := 0) (pc' := 28) (ci0 := 1) K (hc j hlt4) rfl ⟨rfl, rfl, by decide +kernel⟩ (fun U B hT hO => zm_at1 hT hO) zm1_d0 zm1_d1 zm1_d4 zm1_d5 zm1_d8 zm1_d11 q490 q500 q22 q501 ⟨by decide, by decide⟩ (sig := ⟨[.int, .object "CartelWatch$Tender"], some .int⟩) (by decide +kernel) rfl rfl hx9 hf dX1_sum_23 rfl (Nat.le_of_ble_eq_true rfl) ⟨Nat.le_of_ble_eq_true rfl, Nat.le_of_ble_eq_true rfl⟩ ⟨Nat.le_of_ble_eq_true rfl, Nat.le_of_ble_eq_true rfl, Nat.le_of_ble_eq_true rfl, Nat.le_of_ble_eq_true rfl⟩ (fun r M1 h => ?_)
      obtain ⟨rfl, rfl⟩ := h
      refine zw_iadd (pc' := 29) K dX1_sum_28 rfl ?_
      refine zw_istore_n (lv' := [some (.ref l), some (.ref f), some (.int (acc + (val j))), some (.int (nI j))]) (pc' := 30) K dX1_sum_29 (by decide) rfl rfl ?_
      refine zw_iinc (x := (nI j)) (lv' := [some (.ref l), some (.ref f), some (.int (acc + (val j))), some (.int ((nI j) + 1))]) (pc' := 33) K dX1_sum_30 rfl (by decide) rfl rfl ?_
      refine zw_goto (tgt := 4) K dX1_sum_33 (by decide) ?_
      exact ih4 hlt4 ((nI j) + 1) (acc + (val j)) (nI_1 j) (by rw [zf_s, ← hacc])
  exact L4 0 (Nat.zero_le _) 0 0 rfl rfl
set_option maxHeartbeats 2000000 in
theorem ct_X1_sum2 {w : zw_W} {la : Launch} (hl : la.stackTraces = false) (M : zw_M) (l f n : Nat) {a b : Int32} {el : Nat → Nat} (val : Nat → Int32) (hL : M l = some (zw_eL n el)) (hf : M f = some (.inl (.inl (zw_k w (20 + 2), 2, .inl (fun j => if j = 0 then a else b))))) (hn : n < 2 ^ 31) (hb : ∀ j, j < n → ∃ fs : List Value, M (el j) = some (zw_eC 4 fs)) (hc : ∀ j, j < n → zw_C w la yX1_lambda_file_2 cX1_lambda_file_2 3 (some .int) (zr 3 0 0) [.int a, .int b, .ref (el j)] M (zw_pi fun r M1 => r = val j ∧ M1 = M) zw_no) : zw_C w la yX1_sum cX1_sum 4 (Option.some Jvm.ClassFile.FieldType.int) (zr 5 0 0) [.ref l, .ref f] M (zw_pi fun r M1 => r = zf (fun j z => z + val j) n 0 ∧ M1 = M) zw_no := by
  refine zw_enter RX1 rfl (by decide) hl (by simp [Value.category]) (Nat.le_of_ble_eq_true rfl) (fun X hXl hXw K hE htab hcon => ?_)
  subst hXl; subst hXw
  show zw_Z X _ 0 0 0 [some (.ref l), some (.ref f), none, none] []
  refine zw_iconst (v := 0) (pc' := 1) K dX1_sum_0 (by decide) rfl ?_
  refine zw_istore_n (lv' := [some (.ref l), some (.ref f), some (.int 0), none]) (pc' := 2) K dX1_sum_1 (by decide) rfl rfl ?_
  refine zw_iconst (v := 0) (pc' := 3) K dX1_sum_2 (by decide) rfl ?_
  refine zw_istore_n (lv' := [some (.ref l), some (.ref f), some (.int 0), some (.int 0)]) (pc' := 4) K dX1_sum_3 (by decide) rfl rfl ?_
  have L4 : ∀ j : Nat, j ≤ n → ∀ (xi : Int32) (acc : Int32), xi = nI j → (acc = zf (fun j z => z + val j) j 0) → zw_Z X M 0 0 4 [some (.ref l), some (.ref f), some (.int acc), some (.int xi)] [] := by
    refine zl_up (fun j hi4 ih4 => ?_)
    intro xi acc hxi hacc
    refine zw_iload_n (x := xi) (pc' := 5) K dX1_sum_4 rfl rfl ?_
    refine zw_aload_n (v := .ref l) (pc' := 6) K dX1_sum_5 rfl rfl rfl ?_
    refine zc_X1_1 (rest := [.int xi]) (c' := 0) (n' := 0) (pc' := 11) K (ct_J2_size hl M l hL) hL rfl rfl dX1_sum_6 rfl (Nat.le_of_ble_eq_true rfl) ⟨Nat.le_of_ble_eq_true rfl, Nat.le_of_ble_eq_true rfl⟩ ⟨Nat.le_of_ble_eq_true rfl, Nat.le_of_ble_eq_true rfl, Nat.le_of_ble_eq_true rfl, Nat.le_of_ble_eq_true rfl⟩ (zw_kp ?_) zw_kn
    refine zw_icmp_ge (tgt := 36) (pc' := 14) K dX1_sum_11 (by decide) rfl (fun c11 => ?_) (fun c11 => ?_)
    · have hend4 : j = n := zi_ge hxi rfl hi4 hn c11
      refine zw_iload_n (x := acc) (pc' := 37) K dX1_sum_36 rfl rfl ?_
      exact zw_iret K hE dX1_sum_37 ⟨Nat.le_of_ble_eq_true rfl, Nat.le_of_ble_eq_true rfl⟩ (⟨by rw [hacc, hend4], rfl⟩)
    · have hlt4 : j < n := zi_lt hxi rfl hi4 hn c11
      refine zw_iload_n (x := acc) (pc' := 15) K dX1_sum_14 rfl rfl ?_
      refine zw_aload_n (v := .ref f) (pc' := 16) K dX1_sum_15 rfl rfl rfl ?_
      refine zw_aload_n (v := .ref l) (pc' := 17) K dX1_sum_16 rfl rfl rfl ?_
      refine zw_iload_n (x := xi) (pc' := 18) K dX1_sum_17 rfl rfl ?_
      subst hxi
      obtain ⟨fs9, hx9⟩ := hb j hlt4
      refine zc_X1_7 (rest := [.ref f, .int acc]) (c' := 0) (n' := 0) (pc' := 23) K (ct_J2_get hl M l j hL hlt4) hL rfl rfl dX1_sum_18 rfl (Nat.le_of_ble_eq_true rfl) ⟨Nat.le_of_ble_eq_true rfl, Nat.le_of_ble_eq_true rfl⟩ ⟨Nat.le_of_ble_eq_true rfl, Nat.le_of_ble_eq_true rfl, Nat.le_of_ble_eq_true rfl, Nat.le_of_ble_eq_true rfl⟩ (zw_kpr ?_) zw_kn
      refine zw_callL2 (i := 2) (y := yX1_lambda_file_2) (bytes := cX1_lambda_file_2) (maxL := 3) (rc := zr 3 0 0) (c' := 0) (n' := 0) (pc' := 28) (ci0 := 4) K (hc j hlt4) rfl ⟨rfl, rfl, by decide +kernel⟩ (fun U B hT hO => zm_at2 hT hO) zm2_d0 zm2_d1 zm2_d4 zm2_d5 zm2_d8 zm2_d9 zm2_d12 zm2_d15 q490 q534 q22 q535 ⟨by decide, by decide⟩ (sig := ⟨[.int, .int, .object "CartelWatch$Inquiry"], some .int⟩) (by decide +kernel) rfl rfl hx9 hf dX1_sum_23 rfl (Nat.le_of_ble_eq_true rfl) ⟨Nat.le_of_ble_eq_true rfl, Nat.le_of_ble_eq_true rfl⟩ ⟨Nat.le_of_ble_eq_true rfl, Nat.le_of_ble_eq_true rfl, Nat.le_of_ble_eq_true rfl, Nat.le_of_ble_eq_true rfl⟩ (fun r M1 h => ?_)
      obtain ⟨rfl, rfl⟩ := h
      refine zw_iadd (pc' := 29) K dX1_sum_28 rfl ?_
      refine zw_istore_n (lv' := [some (.ref l), some (.ref f), some (.int (acc + (val j))), some (.int (nI j))]) (pc' := 30) K dX1_sum_29 (by decide) rfl rfl ?_
      refine zw_iinc (x := (nI j)) (lv' := [some (.ref l), some (.ref f), some (.int (acc + (val j))), some (.int ((nI j) + 1))]) (pc' := 33) K dX1_sum_30 rfl (by decide) rfl rfl ?_
      refine zw_goto (tgt := 4) K dX1_sum_33 (by decide) ?_
      exact ih4 hlt4 ((nI j) + 1) (acc + (val j)) (nI_1 j) (by rw [zf_s, ← hacc])
  exact L4 0 (Nat.zero_le _) 0 0 rfl rfl
