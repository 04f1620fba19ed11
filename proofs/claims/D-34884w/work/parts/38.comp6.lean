/-! CartelWatch: withdraw, award, passOn -/
set_option maxRecDepth 100000
section ZWT
variable {w : zw_W} {M : zw_M} {ad : Nat → Nat → Nat → Nat} {σ μ : zS} {th : Int32} {o : Int64}
theorem zpr_of {σ' : zS} {v f : Nat} (h7 : zv σ' 7 f = zv σ 7 f) (h8 : zv σ' 8 f = zv σ 8 f) (ha : zv σ' v (2 * f) = zv σ v (2 * f)) (hb : zv σ' v (2 * f + 1) = zv σ v (2 * f + 1)) : zpr σ' v f = zpr σ v f := by
  funext b; unfold zpr; rw [h7, h8, ha, hb]
theorem zW.q10 (h : zW w M ad σ μ th o) {σ' : zS} {t : Nat} (ht : t < zn σ) (hn : zn σ' = zn σ) (hg : zg σ' = zg σ) (hm : ∀ f, zmt σ' f = zmt σ f) (hd : ∀ f, ztd σ' f = ztd σ f) (hv : ∀ v i, 4 ≤ v → zv σ' v i = zv σ v i) (hi : ∀ v i, i ≠ t → zv σ' v i = zv σ v i) :
    zW w (zw_u M (ad 10 t 0) (zw_eC 1 [.ref (ad 11 t 0), .int (if zv σ' 0 t = 0 then 1 else 0), .int (if zv σ' 0 t = 1 then zv σ' 1 t else -1), .int (zv σ' 2 t), .int (zv σ' 3 t)])) ad σ' μ th o := by
  refine h.putC (k := 10) (i := t) (j := 0) (by decide) (by rw [zc_10 ht]; rfl) (zc_10 (by rw [hn]; exact ht)) (fun k' i' j' hk q => ?_)
  exact zcC_congr hn hg (fun _ => hv 6 0 (by decide)) (fun _ => by funext i; exact hv 13 i (by decide)) (fun z1 z2 a _ => hi a i' (fun z => q ⟨z1, z, z2⟩)) (fun _ _ b _ => by rw [hv 4 _ (by decide)]) (fun _ _ => ⟨hv 4 _ (by decide), hv 5 _ (by decide)⟩)
    (fun _ => ⟨hv 9 _ (by decide), hv 12 _ (by decide)⟩) (fun _ => ⟨hv 7 _ (by decide), hv 8 _ (by decide)⟩) (fun _ => hm _) (fun _ => hd _) (fun _ => zpr_of (hv 7 _ (by decide)) (hv 8 _ (by decide)) (hv 10 _ (by decide)) (hv 10 _ (by decide))) (fun _ => zpr_of (hv 7 _ (by decide)) (hv 8 _ (by decide)) (hv 11 _ (by decide)) (hv 11 _ (by decide)))
theorem zW.q5 (h : zW w M ad σ μ th o) {t b : Nat} {x : Int32} (ht : t < zn σ) (hb : b < 7) (hs : ¬ zv σ 4 (7 * t + b) = 0) : zW w (zw_u M (ad 12 t b) (zw_eC 2 [.int (zv σ 4 (7 * t + b)), .int x])) ad (zset σ 5 (7 * t + b) x) μ th o := by
  have e : ∀ v i, v ≠ 5 → zv (zset σ 5 (7 * t + b) x) v i = zv σ v i := fun v i hv => by rw [zset_v, if_neg (fun q => hv q.1)]
  refine h.putC (k := 12) (i := t) (j := b) (by decide) (by rw [zc_12 ht hb hs]; rfl) ?_ (fun k' i' j' hk q => ?_)
  · have z := zc_12 (w := w) (ad := ad) (μ := μ) (th := th) (o := o) (σ := zset σ 5 (7 * t + b) x) (i := t) (j := b) ht hb hs
    rw [zset_v, zset_v, if_neg (fun y => absurd y.1 (by decide)), if_pos ⟨rfl, rfl⟩] at z
    exact z
  · exact zcC_congr rfl rfl (fun _ => e 6 0 (by decide)) (fun _ => by funext i; exact e 13 i (by decide)) (fun _ _ a ha => e a i' (by omega)) (fun _ _ y _ => by rw [e 4 _ (by decide)]) (fun z1 z2 => ⟨e 4 _ (by decide), by rw [zset_v, if_neg (fun y => q ⟨z1, by omega, by omega⟩)]⟩)
      (fun _ => ⟨e 9 _ (by decide), e 12 _ (by decide)⟩) (fun _ => ⟨e 7 _ (by decide), e 8 _ (by decide)⟩) (fun _ => rfl) (fun _ => rfl) (fun _ => zpr_ne (by decide) (by decide) (by decide)) (fun _ => zpr_ne (by decide) (by decide) (by decide))
end ZWT
theorem zst_pos {σ : zS} {t b : Nat} (h : zst σ t b = true) : ¬ zv σ 4 (7 * t + b) = 0 := by
  intro z
  unfold zst at h
  rw [z] at h
  exact absurd h (by simp)
theorem zopen_b {x : Int32} : (if x = 0 then (1 : Int32) else 0) = zb (x == 0) := by by_cases z : x = 0 <;> simp [z, zb]
set_option maxHeartbeats 2000000 in
theorem ct_X1_withdraw {w : zw_W} {la : Launch} (hl : la.stackTraces = false) {M : zw_M} {ad : Nat → Nat → Nat → Nat} {σ μ : zS} {th : Int32} {o : Int64} (hW : zW w M ad σ μ th o) (hI : zI σ) (t b : Int32) : zw_C w la yX1_withdraw cX1_withdraw 4 (Option.some Jvm.ClassFile.FieldType.int) (zr 8 3 18) [.ref (ad 0 0 0), .int t, .int b] M (zw_pi (zPo w ad μ th o (zop_withdraw σ t b))) (zPx ["java/lang/IndexOutOfBoundsException", "java/lang/IllegalArgumentException", "java/lang/IllegalStateException"] w ad σ μ th o (zop_withdraw σ t b)) := by
  refine zw_enter RX1 rfl (by decide) hl (by simp [Value.category]) (Nat.le_of_ble_eq_true rfl) (fun X hXl hXw K hE htab hcon => ?_)
  subst hXl; subst hXw
  show zw_Z X _ 0 0 0 [some (.ref (ad 0 0 0)), some (.int t), some (.int b), none] []
  refine zw_aload_n (v := .ref (ad 0 0 0)) (pc' := 1) K dX1_withdraw_0 rfl rfl rfl ?_
  refine zg_X1_26 (v := .ref (ad 1 0 0)) (pc' := 4) K hW.c0 rfl dX1_withdraw_1 rfl ?_
  refine zw_iload_n (x := t) (pc' := 5) K dX1_withdraw_4 rfl rfl ?_
  refine zc_X1_86 (rest := []) (c' := 1) (n' := 6) (pc' := 8) K (ct_X1_at hl M (ad 1 0 0) (zn σ) t hW.c1 (by have := hI.n; omega)) rfl rfl dX1_withdraw_5 rfl (Nat.le_of_ble_eq_true rfl) ⟨Nat.le_of_ble_eq_true rfl, Nat.le_of_ble_eq_true rfl⟩ ⟨Nat.le_of_ble_eq_true rfl, Nat.le_of_ble_eq_true rfl, Nat.le_of_ble_eq_true rfl, Nat.le_of_ble_eq_true rfl⟩ (zw_kr fun r M1 h => ?_) (fun E M1 h => ?_)
  · obtain ⟨hr, h1, hM⟩ := h
    have hM := hM.symm
    subst hM
    obtain ⟨j, hj, ej⟩ := zin_of h1 (by have := hI.n; omega)
    subst ej
    have hr : r = some (ad 10 j 0) := by rw [hr, zx_n (by have := hI.n; omega)]
    subst hr
    refine zw_cast (ci := 1) (pc' := 11) K rfl q156 (hW.c10 hj) dX1_withdraw_8 rfl ?_
    refine zw_astore_n (lv' := [some (.ref (ad 0 0 0)), some (.int (nI j)), some (.int b), some (.ref (ad 10 j 0))]) (pc' := 12) K dX1_withdraw_11 rfl (by decide) rfl rfl ?_
    refine zw_iload_n (x := b) (pc' := 13) K dX1_withdraw_12 rfl rfl ?_
    refine zc_X1_54 (rest := []) (c' := 2) (n' := 12) (pc' := 16) K (ct_X1_bidder hl M b) rfl rfl dX1_withdraw_13 rfl (Nat.le_of_ble_eq_true rfl) ⟨Nat.le_of_ble_eq_true rfl, Nat.le_of_ble_eq_true rfl⟩ ⟨Nat.le_of_ble_eq_true rfl, Nat.le_of_ble_eq_true rfl, Nat.le_of_ble_eq_true rfl, Nat.le_of_ble_eq_true rfl⟩ (zw_ki fun r M1 h => ?_) (fun E M1 h => ?_)
    · obtain ⟨hr, h2, hM⟩ := h
      have hM := hM.symm
      subst hM
      rw [hr]
      obtain ⟨k, hk, ek⟩ := zin_of h2 (by decide)
      subst ek
      refine zw_pop (pc' := 17) K dX1_withdraw_16 rfl rfl ?_
      refine zw_aload_n (v := .ref (ad 10 j 0)) (pc' := 18) K dX1_withdraw_17 rfl rfl rfl ?_
      refine zg_X1_91 (v := .int (if zv σ 0 j = 0 then 1 else 0)) (pc' := 21) K (hW.c10 hj) rfl dX1_withdraw_18 rfl ?_
      refine zw_if_eq (tgt := 36) (pc' := 24) K dX1_withdraw_21 (by decide) rfl (fun c21 => ?_) (fun c21 => ?_)
      · refine zw_iconst (v := 0) (pc' := 37) K dX1_withdraw_36 (by decide) rfl ?_
        refine zc_X1_75 (rest := []) (c' := 3) (n' := 18) (pc' := 40) K (ct_X1_must hl M false) rfl rfl dX1_withdraw_37 rfl (Nat.le_of_ble_eq_true rfl) ⟨Nat.le_of_ble_eq_true rfl, Nat.le_of_ble_eq_true rfl⟩ ⟨Nat.le_of_ble_eq_true rfl, Nat.le_of_ble_eq_true rfl, Nat.le_of_ble_eq_true rfl, Nat.le_of_ble_eq_true rfl⟩ (zw_kv fun M1 h => absurd h.1 (by decide)) (fun E M1 h => ?_)
        obtain ⟨h0, -, hM⟩ := h
        have hM := hM.symm
        subst h0; subst hM
        exact zw_out K hE htab ⟨Nat.le_of_ble_eq_true rfl, Nat.le_of_ble_eq_true rfl⟩ (zPx.mk 2 (c := 3) (by unfold zop_withdraw; rw [if_neg (by simp [h1]), if_neg (by simp [h2]), zx_n (by have := hI.n; omega), zx_n (by omega), if_pos (by rw [show (zv σ 0 j == 0) = false by simpa [zopen_b, zb_0] using c21, Bool.false_and])]) (by decide) rfl hW)
      · refine zw_aload_n (v := .ref (ad 10 j 0)) (pc' := 25) K dX1_withdraw_24 rfl rfl rfl ?_
        refine zw_iload_n (x := (nI k)) (pc' := 26) K dX1_withdraw_25 rfl rfl ?_
        refine zc_X1_104 (rest := []) (c' := 2) (n' := 12) (pc' := 29) K (ct_X3_stands hl M (ad 10 j 0) (hW.tender hI.sm hj) k hk) (hW.c10 hj) rfl rfl dX1_withdraw_26 rfl (Nat.le_of_ble_eq_true rfl) ⟨Nat.le_of_ble_eq_true rfl, Nat.le_of_ble_eq_true rfl⟩ ⟨Nat.le_of_ble_eq_true rfl, Nat.le_of_ble_eq_true rfl, Nat.le_of_ble_eq_true rfl, Nat.le_of_ble_eq_true rfl⟩ (zw_kp ?_) zw_kn
        refine zw_if_eq (tgt := 36) (pc' := 32) K dX1_withdraw_29 (by decide) rfl (fun c29 => ?_) (fun c29 => ?_)
        · have c29 := zb_0.mp c29
          have c29 : zst σ j k = false := c29
          refine zw_iconst (v := 0) (pc' := 37) K dX1_withdraw_36 (by decide) rfl ?_
          refine zc_X1_75 (rest := []) (c' := 3) (n' := 18) (pc' := 40) K (ct_X1_must hl M false) rfl rfl dX1_withdraw_37 rfl (Nat.le_of_ble_eq_true rfl) ⟨Nat.le_of_ble_eq_true rfl, Nat.le_of_ble_eq_true rfl⟩ ⟨Nat.le_of_ble_eq_true rfl, Nat.le_of_ble_eq_true rfl, Nat.le_of_ble_eq_true rfl, Nat.le_of_ble_eq_true rfl⟩ (zw_kv fun M1 h => absurd h.1 (by decide)) (fun E M1 h => ?_)
          obtain ⟨h0, -, hM⟩ := h
          have hM := hM.symm
          subst h0; subst hM
          exact zw_out K hE htab ⟨Nat.le_of_ble_eq_true rfl, Nat.le_of_ble_eq_true rfl⟩ (zPx.mk 2 (c := 3) (by unfold zop_withdraw; rw [if_neg (by simp [h1]), if_neg (by simp [h2]), zx_n (by have := hI.n; omega), zx_n (by omega), if_pos (by rw [show zst σ j k = false from c29, Bool.and_false])]) (by decide) rfl hW)
        · have c29 := zb_nz.mp c29
          have c29 : zst σ j k = true := c29
          refine zw_iconst (v := 1) (pc' := 33) K dX1_withdraw_32 (by decide) rfl ?_
          refine zw_goto (tgt := 37) K dX1_withdraw_33 (by decide) ?_
          refine zc_X1_75 (rest := []) (c' := 3) (n' := 18) (pc' := 40) K (ct_X1_must hl M true) rfl rfl dX1_withdraw_37 rfl (Nat.le_of_ble_eq_true rfl) ⟨Nat.le_of_ble_eq_true rfl, Nat.le_of_ble_eq_true rfl⟩ ⟨Nat.le_of_ble_eq_true rfl, Nat.le_of_ble_eq_true rfl, Nat.le_of_ble_eq_true rfl, Nat.le_of_ble_eq_true rfl⟩ (zw_kv fun M1 h => ?_) (fun E M1 h => absurd h.2.1 (by decide))
          obtain ⟨-, hM⟩ := h
          have hM := hM.symm
          subst hM
          have hs9 := zst_pos c29
          refine zw_aload_n (v := .ref (ad 10 j 0)) (pc' := 41) K dX1_withdraw_40 rfl rfl rfl ?_
          refine zg_X1_95 (v := .ref (ad 11 j 0)) (pc' := 44) K (hW.c10 hj) rfl dX1_withdraw_41 rfl ?_
          refine zw_iload_n (x := (nI k)) (pc' := 45) K dX1_withdraw_44 rfl rfl ?_
          refine zn_aaldB (j := k) (v := (some (ad 12 j k))) (pc' := 46) K (hW.c11 hj) rfl hk ((if_pos hk).trans (if_neg hs9)) dX1_withdraw_45 rfl ?_
          refine zw_iconst (v := 1) (pc' := 47) K dX1_withdraw_46 (by decide) rfl ?_
          refine zp_X1_108 (v := .int 1) (pc' := 50) K (hW.c12 hj hk hs9) rfl rfl (by simp) dX1_withdraw_47 rfl ?_
          refine zw_nmM (fun M1 eM1 => ?_)
          have hW2 : zW (zw_Xw X) M1 ad (zset σ 5 (7 * j + k) 1) μ th o := by rw [eM1]; exact hW.q5 hj hk hs9
          refine zw_aload_n (v := .ref (ad 10 j 0)) (pc' := 51) K dX1_withdraw_50 rfl rfl rfl ?_
          refine zg_X1_95 (v := .ref (ad 11 j 0)) (pc' := 54) K (hW2.c10 hj) rfl dX1_withdraw_51 rfl ?_
          refine zw_iload_n (x := (nI k)) (pc' := 55) K dX1_withdraw_54 rfl rfl ?_
          refine zn_aaldB (j := k) (v := (some (ad 12 j k))) (pc' := 56) K (hW2.c11 hj) rfl hk ((if_pos hk).trans (if_neg hs9)) dX1_withdraw_55 rfl ?_
          refine zg_X1_111 (v := .int (zv (zset σ 5 (7 * j + k) 1) 4 (7 * j + k))) (pc' := 59) K (hW2.c12 hj hk hs9) rfl dX1_withdraw_56 rfl ?_
          exact zw_iret K hE dX1_withdraw_59 ⟨Nat.le_of_ble_eq_true rfl, Nat.le_of_ble_eq_true rfl⟩ (zPo.mk (by unfold zop_withdraw; rw [if_neg (by simp [h1]), if_neg (by simp [h2]), zx_n (by have := hI.n; omega), zx_n (by omega), if_neg (by rw [show (zv σ 0 j == 0) = true by simpa [zopen_b, zb_0] using c21, c29]; decide)]; rfl) hW2.x)
    · obtain ⟨h0, h2, hM⟩ := h
      have hM := hM.symm
      subst h0; subst hM
      exact zw_out K hE htab ⟨Nat.le_of_ble_eq_true rfl, Nat.le_of_ble_eq_true rfl⟩ (zPx.mk 1 (c := 2) (by simp [zop_withdraw, h1, h2]) (by decide) rfl hW)
  · obtain ⟨h0, h1, hM⟩ := h
    have hM := hM.symm
    subst h0; subst hM
    exact zw_out K hE htab ⟨Nat.le_of_ble_eq_true rfl, Nat.le_of_ble_eq_true rfl⟩ (zPx.mk 0 (c := 1) (by simp [zop_withdraw, h1]) (by decide) rfl hW)
set_option maxHeartbeats 2000000 in
theorem ct_X1_award {w : zw_W} {la : Launch} (hl : la.stackTraces = false) {M : zw_M} {ad : Nat → Nat → Nat → Nat} {σ μ : zS} {th : Int32} {o : Int64} (hW : zW w M ad σ μ th o) (hI : zI σ) (t : Int32) : zw_C w la yX1_award cX1_award 3 (Option.some Jvm.ClassFile.FieldType.int) (zr 8 2 12) [.ref (ad 0 0 0), .int t] M (zw_pi (zPo w ad μ th o (zop_award σ t))) (zPx ["java/lang/IndexOutOfBoundsException", "java/lang/IllegalStateException"] w ad σ μ th o (zop_award σ t)) := by
  refine zw_enter RX1 rfl (by decide) hl (by simp [Value.category]) (Nat.le_of_ble_eq_true rfl) (fun X hXl hXw K hE htab hcon => ?_)
  subst hXl; subst hXw
  show zw_Z X _ 0 0 0 [some (.ref (ad 0 0 0)), some (.int t), none] []
  refine zw_aload_n (v := .ref (ad 0 0 0)) (pc' := 1) K dX1_award_0 rfl rfl rfl ?_
  refine zg_X1_26 (v := .ref (ad 1 0 0)) (pc' := 4) K hW.c0 rfl dX1_award_1 rfl ?_
  refine zw_iload_n (x := t) (pc' := 5) K dX1_award_4 rfl rfl ?_
  refine zc_X1_86 (rest := []) (c' := 1) (n' := 6) (pc' := 8) K (ct_X1_at hl M (ad 1 0 0) (zn σ) t hW.c1 (by have := hI.n; omega)) rfl rfl dX1_award_5 rfl (Nat.le_of_ble_eq_true rfl) ⟨Nat.le_of_ble_eq_true rfl, Nat.le_of_ble_eq_true rfl⟩ ⟨Nat.le_of_ble_eq_true rfl, Nat.le_of_ble_eq_true rfl, Nat.le_of_ble_eq_true rfl, Nat.le_of_ble_eq_true rfl⟩ (zw_kr fun r M1 h => ?_) (fun E M1 h => ?_)
  · obtain ⟨hr, h1, hM⟩ := h
    have hM := hM.symm
    subst hM
    obtain ⟨j, hj, ej⟩ := zin_of h1 (by have := hI.n; omega)
    subst ej
    have hr : r = some (ad 10 j 0) := by rw [hr, zx_n (by have := hI.n; omega)]
    subst hr
    refine zw_cast (ci := 1) (pc' := 11) K rfl q156 (hW.c10 hj) dX1_award_8 rfl ?_
    refine zw_astore_n (lv' := [some (.ref (ad 0 0 0)), some (.int (nI j)), some (.ref (ad 10 j 0))]) (pc' := 12) K dX1_award_11 rfl (by decide) rfl rfl ?_
    refine zw_aload_n (v := .ref (ad 10 j 0)) (pc' := 13) K dX1_award_12 rfl rfl rfl ?_
    refine zg_X1_91 (v := .int (if zv σ 0 j = 0 then 1 else 0)) (pc' := 16) K (hW.c10 hj) rfl dX1_award_13 rfl ?_
    rw [zopen_b]
    refine zc_X1_75 (rest := []) (c' := 2) (n' := 12) (pc' := 19) K (ct_X1_must hl M (zv σ 0 j == 0)) rfl rfl dX1_award_16 rfl (Nat.le_of_ble_eq_true rfl) ⟨Nat.le_of_ble_eq_true rfl, Nat.le_of_ble_eq_true rfl⟩ ⟨Nat.le_of_ble_eq_true rfl, Nat.le_of_ble_eq_true rfl, Nat.le_of_ble_eq_true rfl, Nat.le_of_ble_eq_true rfl⟩ (zw_kv fun M1 h => ?_) (fun E M1 h => ?_)
    · obtain ⟨h2, hM⟩ := h
      have hM := hM.symm
      subst hM
      refine zw_aload_n (v := .ref (ad 10 j 0)) (pc' := 20) K dX1_award_19 rfl rfl rfl ?_
      refine zw_iconst (v := 0) (pc' := 21) K dX1_award_20 (by decide) rfl ?_
      refine zp_X1_91 (v := .int 0) (pc' := 24) K (hW.c10 hj) rfl rfl (by simp) dX1_award_21 rfl ?_
      refine zw_nmM (fun M1 eM1 => ?_)
      have hW2 : zW (zw_Xw X) M1 ad (zset σ 0 j 2) μ th o := by
        have z := hW.q10 (σ' := zset σ 0 j 2) hj rfl rfl (fun _ => rfl) (fun _ => rfl) (fun v i hv => by simp only [zset_v]; rw [if_neg (by omega)]) (fun v i hi => by simp only [zset_v]; rw [if_neg (fun q => hi q.2)])
        have e : zw_eC 1 [.ref (ad 11 j 0), .int 0, .int (if zv σ 0 j = 1 then zv σ 1 j else -1), .int (zv σ 2 j), .int (zv σ 3 j)] = zw_eC 1 [.ref (ad 11 j 0), .int (if zv (zset σ 0 j 2) 0 j = 0 then 1 else 0), .int (if zv (zset σ 0 j 2) 0 j = 1 then zv (zset σ 0 j 2) 1 j else -1), .int (zv (zset σ 0 j 2) 2 j), .int (zv (zset σ 0 j 2) 3 j)] := by have z0 : zv σ 0 j = 0 := eq_of_beq h2; simp [zset_v, z0]
        rw [← e] at z; rw [eM1]; exact z
      refine zw_aload_n (v := .ref (ad 10 j 0)) (pc' := 25) K dX1_award_24 rfl rfl rfl ?_
      refine zw_aload_n (v := .ref (ad 10 j 0)) (pc' := 26) K dX1_award_25 rfl rfl rfl ?_
      have hbest : zs_least (fun b => zv (zset σ 0 j 2) 4 (7 * j + b)) (fun b => zv (zset σ 0 j 2) 5 (7 * j + b)) = zbest σ j := by unfold zs_least zbest; exact zf_congr (fun i _ z => rfl)
      refine zc_X1_114 (rest := [.ref (ad 10 j 0)]) (c' := 2) (n' := 12) (pc' := 29) K ((by have z := ct_X3_least hl M1 (ad 10 j 0) (hW2.tender (fun i => by simp only [zset_v]; rw [if_neg (by omega)]; exact hI.sm i) hj); rw [hbest] at z; exact z)) (hW2.c10 hj) rfl rfl dX1_award_26 rfl (Nat.le_of_ble_eq_true rfl) ⟨Nat.le_of_ble_eq_true rfl, Nat.le_of_ble_eq_true rfl⟩ ⟨Nat.le_of_ble_eq_true rfl, Nat.le_of_ble_eq_true rfl, Nat.le_of_ble_eq_true rfl, Nat.le_of_ble_eq_true rfl⟩ (zw_kp ?_) zw_kn
      refine zp_X1_117 (v := .int (zbest σ j)) (pc' := 32) K (hW2.c10 hj) rfl rfl (by simp) dX1_award_29 rfl ?_
      refine zw_nmM (fun M3 eM3 => ?_)
      have hW4 : zW (zw_Xw X) M3 ad (zset (zset σ 0 j (if zbest σ j = -1 then 2 else 1)) 1 j (zbest σ j)) μ th o := by
        have z := hW2.q10 (σ' := zset (zset σ 0 j (if zbest σ j = -1 then 2 else 1)) 1 j (zbest σ j)) hj rfl rfl (fun _ => rfl) (fun _ => rfl) (fun v i hv => by simp only [zset_v]; rw [if_neg (by omega), if_neg (by omega), if_neg (by omega)]) (fun v i hi => by simp only [zset_v]; rw [if_neg (fun q => hi q.2), if_neg (fun q => hi q.2), if_neg (fun q => hi q.2)])
        have e : zw_eC 1 [.ref (ad 11 j 0), .int (if zv (zset σ 0 j 2) 0 j = 0 then 1 else 0), .int (zbest σ j), .int (zv (zset σ 0 j 2) 2 j), .int (zv (zset σ 0 j 2) 3 j)] = zw_eC 1 [.ref (ad 11 j 0), .int (if zv (zset (zset σ 0 j (if zbest σ j = -1 then 2 else 1)) 1 j (zbest σ j)) 0 j = 0 then 1 else 0), .int (if zv (zset (zset σ 0 j (if zbest σ j = -1 then 2 else 1)) 1 j (zbest σ j)) 0 j = 1 then zv (zset (zset σ 0 j (if zbest σ j = -1 then 2 else 1)) 1 j (zbest σ j)) 1 j else -1), .int (zv (zset (zset σ 0 j (if zbest σ j = -1 then 2 else 1)) 1 j (zbest σ j)) 2 j), .int (zv (zset (zset σ 0 j (if zbest σ j = -1 then 2 else 1)) 1 j (zbest σ j)) 3 j)] := by by_cases z : zbest σ j = -1 <;> simp [zset_v, z]
        rw [← e] at z; rw [eM3]; exact z
      refine zw_aload_n (v := .ref (ad 10 j 0)) (pc' := 33) K dX1_award_32 rfl rfl rfl ?_
      refine zg_X1_117 (v := .int (if zv (zset (zset σ 0 j (if zbest σ j = -1 then 2 else 1)) 1 j (zbest σ j)) 0 j = 1 then zv (zset (zset σ 0 j (if zbest σ j = -1 then 2 else 1)) 1 j (zbest σ j)) 1 j else -1)) (pc' := 36) K (hW4.c10 hj) rfl dX1_award_33 rfl ?_
      exact zw_iret K hE dX1_award_36 ⟨Nat.le_of_ble_eq_true rfl, Nat.le_of_ble_eq_true rfl⟩ (zPo.mk (σ' := zset (zset σ 0 j (if zbest σ j = -1 then 2 else 1)) 1 j (zbest σ j)) (by unfold zop_award; rw [if_neg (by simp [h1]), zx_n (by have := hI.n; omega), if_neg (by rw [h2]; decide)]; by_cases z : zbest σ j = -1 <;> simp [zset_v, z]) hW4.x)
    · obtain ⟨h0, h2, hM⟩ := h
      have hM := hM.symm
      subst h0; subst hM
      exact zw_out K hE htab ⟨Nat.le_of_ble_eq_true rfl, Nat.le_of_ble_eq_true rfl⟩ (zPx.mk 1 (c := 2) (by unfold zop_award; rw [if_neg (by simp [h1]), zx_n (by have := hI.n; omega), if_pos h2]) (by decide) rfl hW)
  · obtain ⟨h0, h1, hM⟩ := h
    have hM := hM.symm
    subst h0; subst hM
    exact zw_out K hE htab ⟨Nat.le_of_ble_eq_true rfl, Nat.le_of_ble_eq_true rfl⟩ (zPx.mk 0 (c := 1) (by simp [zop_award, h1]) (by decide) rfl hW)
set_option maxHeartbeats 2000000 in
theorem ct_X1_passOn {w : zw_W} {la : Launch} (hl : la.stackTraces = false) {M : zw_M} {ad : Nat → Nat → Nat → Nat} {σ μ : zS} {th : Int32} {o : Int64} (hW : zW w M ad σ μ th o) (hI : zI σ) (t b x : Int32) : zw_C w la yX1_passOn cX1_passOn 5 (Option.some Jvm.ClassFile.FieldType.int) (zr 8 5 30) [.ref (ad 0 0 0), .int t, .int b, .int x] M (zw_pi (zPo w ad μ th o (zop_passOn σ t b x))) (zPx ["java/lang/IndexOutOfBoundsException", "java/lang/IllegalStateException", "java/lang/IllegalArgumentException"] w ad σ μ th o (zop_passOn σ t b x)) := by
  refine zw_enter RX1 rfl (by decide) hl (by simp [Value.category]) (Nat.le_of_ble_eq_true rfl) (fun X hXl hXw K hE htab hcon => ?_)
  subst hXl; subst hXw
  show zw_Z X _ 0 0 0 [some (.ref (ad 0 0 0)), some (.int t), some (.int b), some (.int x), none] []
  refine zw_aload_n (v := .ref (ad 0 0 0)) (pc' := 1) K dX1_passOn_0 rfl rfl rfl ?_
  refine zg_X1_26 (v := .ref (ad 1 0 0)) (pc' := 4) K hW.c0 rfl dX1_passOn_1 rfl ?_
  refine zw_iload_n (x := t) (pc' := 5) K dX1_passOn_4 rfl rfl ?_
  refine zc_X1_86 (rest := []) (c' := 1) (n' := 6) (pc' := 8) K (ct_X1_at hl M (ad 1 0 0) (zn σ) t hW.c1 (by have := hI.n; omega)) rfl rfl dX1_passOn_5 rfl (Nat.le_of_ble_eq_true rfl) ⟨Nat.le_of_ble_eq_true rfl, Nat.le_of_ble_eq_true rfl⟩ ⟨Nat.le_of_ble_eq_true rfl, Nat.le_of_ble_eq_true rfl, Nat.le_of_ble_eq_true rfl, Nat.le_of_ble_eq_true rfl⟩ (zw_kr fun r M1 h => ?_) (fun E M1 h => ?_)
  · obtain ⟨hr, h1, hM⟩ := h
    have hM := hM.symm
    subst hM
    obtain ⟨j, hj, ej⟩ := zin_of h1 (by have := hI.n; omega)
    subst ej
    have hr : r = some (ad 10 j 0) := by rw [hr, zx_n (by have := hI.n; omega)]
    subst hr
    refine zw_cast (ci := 1) (pc' := 11) K rfl q156 (hW.c10 hj) dX1_passOn_8 rfl ?_
    refine zw_astore (lv' := [some (.ref (ad 0 0 0)), some (.int (nI j)), some (.int b), some (.int x), some (.ref (ad 10 j 0))]) (pc' := 13) K dX1_passOn_11 rfl (by decide) rfl rfl ?_
    refine zw_aload (v := .ref (ad 10 j 0)) (pc' := 15) K dX1_passOn_13 rfl rfl rfl ?_
    refine zg_X1_117 (v := .int (if zv σ 0 j = 1 then zv σ 1 j else -1)) (pc' := 18) K (hW.c10 hj) rfl dX1_passOn_15 rfl ?_
    refine zw_iconst (v := (-1)) (pc' := 19) K dX1_passOn_18 (by decide) rfl ?_
    refine zw_icmp_eq (tgt := 35) (pc' := 22) K dX1_passOn_19 (by decide) rfl (fun c19 => ?_) (fun c19 => ?_)
    · refine zw_iconst (v := 0) (pc' := 36) K dX1_passOn_35 (by decide) rfl ?_
      refine zc_X1_75 (rest := []) (c' := 2) (n' := 12) (pc' := 39) K (ct_X1_must hl M false) rfl rfl dX1_passOn_36 rfl (Nat.le_of_ble_eq_true rfl) ⟨Nat.le_of_ble_eq_true rfl, Nat.le_of_ble_eq_true rfl⟩ ⟨Nat.le_of_ble_eq_true rfl, Nat.le_of_ble_eq_true rfl, Nat.le_of_ble_eq_true rfl, Nat.le_of_ble_eq_true rfl⟩ (zw_kv fun M1 h => absurd h.1 (by decide)) (fun E M1 h => ?_)
      obtain ⟨h0, -, hM⟩ := h
      have hM := hM.symm
      subst h0; subst hM
      exact zw_out K hE htab ⟨Nat.le_of_ble_eq_true rfl, Nat.le_of_ble_eq_true rfl⟩ (zPx.mk 1 (c := 2) (by unfold zop_passOn; rw [if_neg (by simp [h1]), zx_n (by have := hI.n; omega), if_pos (by rw [show (zv σ 0 j == 1) = false from by by_cases z : zv σ 0 j = 1; rw [if_pos z] at c19; obtain ⟨y, y1, y2, -⟩ := hI.wi hj z; rw [y2] at c19; exact absurd c19 (zs_neg1 y (by omega)); simpa using z, Bool.false_and])]) (by decide) rfl hW)
    · refine zw_aload (v := .ref (ad 10 j 0)) (pc' := 24) K dX1_passOn_22 rfl rfl rfl ?_
      refine zg_X1_120 (v := .int (zv σ 2 j)) (pc' := 27) K (hW.c10 hj) rfl dX1_passOn_24 rfl ?_
      refine zw_iconst (v := (-1)) (pc' := 28) K dX1_passOn_27 (by decide) rfl ?_
      refine zw_icmp_ne (tgt := 35) (pc' := 31) K dX1_passOn_28 (by decide) rfl (fun c28 => ?_) (fun c28 => ?_)
      · refine zw_iconst (v := 0) (pc' := 36) K dX1_passOn_35 (by decide) rfl ?_
        refine zc_X1_75 (rest := []) (c' := 2) (n' := 12) (pc' := 39) K (ct_X1_must hl M false) rfl rfl dX1_passOn_36 rfl (Nat.le_of_ble_eq_true rfl) ⟨Nat.le_of_ble_eq_true rfl, Nat.le_of_ble_eq_true rfl⟩ ⟨Nat.le_of_ble_eq_true rfl, Nat.le_of_ble_eq_true rfl, Nat.le_of_ble_eq_true rfl, Nat.le_of_ble_eq_true rfl⟩ (zw_kv fun M1 h => absurd h.1 (by decide)) (fun E M1 h => ?_)
        obtain ⟨h0, -, hM⟩ := h
        have hM := hM.symm
        subst h0; subst hM
        exact zw_out K hE htab ⟨Nat.le_of_ble_eq_true rfl, Nat.le_of_ble_eq_true rfl⟩ (zPx.mk 1 (c := 2) (by unfold zop_passOn; rw [if_neg (by simp [h1]), zx_n (by have := hI.n; omega), if_pos (by rw [show (zv σ 2 j == -1) = false from by simpa using c28, Bool.and_false])]) (by decide) rfl hW)
      · refine zw_iconst (v := 1) (pc' := 32) K dX1_passOn_31 (by decide) rfl ?_
        refine zw_goto (tgt := 36) K dX1_passOn_32 (by decide) ?_
        refine zc_X1_75 (rest := []) (c' := 2) (n' := 12) (pc' := 39) K (ct_X1_must hl M true) rfl rfl dX1_passOn_36 rfl (Nat.le_of_ble_eq_true rfl) ⟨Nat.le_of_ble_eq_true rfl, Nat.le_of_ble_eq_true rfl⟩ ⟨Nat.le_of_ble_eq_true rfl, Nat.le_of_ble_eq_true rfl, Nat.le_of_ble_eq_true rfl, Nat.le_of_ble_eq_true rfl⟩ (zw_kv fun M1 h => ?_) (fun E M1 h => absurd h.2.1 (by decide))
        obtain ⟨-, hM⟩ := h
        have hM := hM.symm
        subst hM
        have hs1 : zv σ 0 j = 1 := by by_cases z : zv σ 0 j = 1; exact z; rw [if_neg z] at c19; exact absurd rfl c19
        obtain ⟨jw, hjw, hwj, hp0⟩ := hI.wi hj hs1
        have hZ := hW.tender hI.sm hj
        rw [if_pos hs1, hwj] at hZ
        have hres : zop_passOn σ (nI j) b x = (if (zin b 7 && zrg x 1 (zv σ 4 (7 * j + jw)) && !(b == nI jw)) = false then (0, 3, σ) else (nI jw, 0, zset (zset σ 2 j b) 3 j x)) := by
          unfold zop_passOn zprice
          rw [if_neg (by simp [h1]), zx_n (by have := hI.n; omega), if_neg (by rw [hs1, c28]; decide), hwj, zx_n (by omega : jw < 2 ^ 31)]
          rfl
        refine zw_iload_n (x := b) (pc' := 40) K dX1_passOn_39 rfl rfl ?_
        refine zc_X1_54 (rest := []) (c' := 3) (n' := 18) (pc' := 43) K (ct_X1_bidder hl M b) rfl rfl dX1_passOn_40 rfl (Nat.le_of_ble_eq_true rfl) ⟨Nat.le_of_ble_eq_true rfl, Nat.le_of_ble_eq_true rfl⟩ ⟨Nat.le_of_ble_eq_true rfl, Nat.le_of_ble_eq_true rfl, Nat.le_of_ble_eq_true rfl, Nat.le_of_ble_eq_true rfl⟩ (zw_ki fun r M1 h => ?_) (fun E M1 h => ?_)
        · obtain ⟨hr, h2, hM⟩ := h
          have hM := hM.symm
          subst hM
          rw [hr]
          refine zw_pop (pc' := 44) K dX1_passOn_43 rfl rfl ?_
          refine zw_iload_n (x := x) (pc' := 45) K dX1_passOn_44 rfl rfl ?_
          refine zw_iconst (v := 1) (pc' := 46) K dX1_passOn_45 (by decide) rfl ?_
          refine zw_aload (v := .ref (ad 10 j 0)) (pc' := 48) K dX1_passOn_46 rfl rfl rfl ?_
          refine zc_X1_123 (rest := [.int 1, .int x]) (c' := 3) (n' := 18) (pc' := 51) K (ct_X3_sum hl M (ad 10 j 0) jw hjw hZ hp0) (hW.c10 hj) rfl rfl dX1_passOn_48 rfl (Nat.le_of_ble_eq_true rfl) ⟨Nat.le_of_ble_eq_true rfl, Nat.le_of_ble_eq_true rfl⟩ ⟨Nat.le_of_ble_eq_true rfl, Nat.le_of_ble_eq_true rfl, Nat.le_of_ble_eq_true rfl, Nat.le_of_ble_eq_true rfl⟩ (zw_kp ?_) zw_kn
          refine zc_X1_50 (rest := []) (c' := 4) (n' := 24) (pc' := 54) K (ct_X1_in hl M x 1 (zv σ 4 (7 * j + jw))) rfl rfl dX1_passOn_51 rfl (Nat.le_of_ble_eq_true rfl) ⟨Nat.le_of_ble_eq_true rfl, Nat.le_of_ble_eq_true rfl⟩ ⟨Nat.le_of_ble_eq_true rfl, Nat.le_of_ble_eq_true rfl, Nat.le_of_ble_eq_true rfl, Nat.le_of_ble_eq_true rfl⟩ (zw_ki fun r M1 h => ?_) (fun E M1 h => ?_)
          · obtain ⟨hr, h3, hM⟩ := h
            have hM := hM.symm
            subst hM
            rw [hr]
            refine zw_pop (pc' := 55) K dX1_passOn_54 rfl rfl ?_
            refine zw_iload_n (x := b) (pc' := 56) K dX1_passOn_55 rfl rfl ?_
            refine zw_aload (v := .ref (ad 10 j 0)) (pc' := 58) K dX1_passOn_56 rfl rfl rfl ?_
            refine zg_X1_117 (v := .int (if zv σ 0 j = 1 then zv σ 1 j else -1)) (pc' := 61) K (hW.c10 hj) rfl dX1_passOn_58 rfl ?_
            refine zw_icmp_ne (tgt := 74) (pc' := 64) K dX1_passOn_61 (by decide) rfl (fun c61 => ?_) (fun c61 => ?_)
            · refine zw_aload (v := .ref (ad 10 j 0)) (pc' := 76) K dX1_passOn_74 rfl rfl rfl ?_
              refine zw_iload_n (x := b) (pc' := 77) K dX1_passOn_76 rfl rfl ?_
              refine zp_X1_120 (v := .int b) (pc' := 80) K (hW.c10 hj) rfl rfl (by simp) dX1_passOn_77 rfl ?_
              refine zw_nmM (fun M1 eM1 => ?_)
              have hW2 : zW (zw_Xw X) M1 ad (zset σ 2 j b) μ th o := by
                have z := hW.q10 (σ' := zset σ 2 j b) hj rfl rfl (fun _ => rfl) (fun _ => rfl) (fun v i hv => by simp only [zset_v]; rw [if_neg (by omega)]) (fun v i hi => by simp only [zset_v]; rw [if_neg (fun q => hi q.2)])
                have e : zw_eC 1 [.ref (ad 11 j 0), .int (if zv σ 0 j = 0 then 1 else 0), .int (if zv σ 0 j = 1 then zv σ 1 j else -1), .int b, .int (zv σ 3 j)] = zw_eC 1 [.ref (ad 11 j 0), .int (if zv (zset σ 2 j b) 0 j = 0 then 1 else 0), .int (if zv (zset σ 2 j b) 0 j = 1 then zv (zset σ 2 j b) 1 j else -1), .int (zv (zset σ 2 j b) 2 j), .int (zv (zset σ 2 j b) 3 j)] := by simp [zset_v]
                rw [← e] at z; rw [eM1]; exact z
              refine zw_aload (v := .ref (ad 10 j 0)) (pc' := 82) K dX1_passOn_80 rfl rfl rfl ?_
              refine zw_iload_n (x := x) (pc' := 83) K dX1_passOn_82 rfl rfl ?_
              refine zp_X1_127 (v := .int x) (pc' := 86) K (hW2.c10 hj) rfl rfl (by simp) dX1_passOn_83 rfl ?_
              refine zw_nmM (fun M3 eM3 => ?_)
              have hW4 : zW (zw_Xw X) M3 ad (zset (zset σ 2 j b) 3 j x) μ th o := by
                have z := hW2.q10 (σ' := zset (zset σ 2 j b) 3 j x) hj rfl rfl (fun _ => rfl) (fun _ => rfl) (fun v i hv => by simp only [zset_v]; rw [if_neg (by omega), if_neg (by omega)]) (fun v i hi => by simp only [zset_v]; rw [if_neg (fun q => hi q.2), if_neg (fun q => hi q.2)])
                have e : zw_eC 1 [.ref (ad 11 j 0), .int (if zv (zset σ 2 j b) 0 j = 0 then 1 else 0), .int (if zv (zset σ 2 j b) 0 j = 1 then zv (zset σ 2 j b) 1 j else -1), .int (zv (zset σ 2 j b) 2 j), .int x] = zw_eC 1 [.ref (ad 11 j 0), .int (if zv (zset (zset σ 2 j b) 3 j x) 0 j = 0 then 1 else 0), .int (if zv (zset (zset σ 2 j b) 3 j x) 0 j = 1 then zv (zset (zset σ 2 j b) 3 j x) 1 j else -1), .int (zv (zset (zset σ 2 j b) 3 j x) 2 j), .int (zv (zset (zset σ 2 j b) 3 j x) 3 j)] := by simp [zset_v]
                rw [← e] at z; rw [eM3]; exact z
              refine zw_aload (v := .ref (ad 10 j 0)) (pc' := 88) K dX1_passOn_86 rfl rfl rfl ?_
              refine zg_X1_117 (v := .int (if zv (zset (zset σ 2 j b) 3 j x) 0 j = 1 then zv (zset (zset σ 2 j b) 3 j x) 1 j else -1)) (pc' := 91) K (hW4.c10 hj) rfl dX1_passOn_88 rfl ?_
              exact zw_iret K hE dX1_passOn_91 ⟨Nat.le_of_ble_eq_true rfl, Nat.le_of_ble_eq_true rfl⟩ (zPo.mk (σ' := zset (zset σ 2 j b) 3 j x) (by rw [hres, if_neg (by rw [h2, h3, show (b == nI jw) = false by rw [if_pos hs1, hwj] at c61; simpa using c61]; decide)]; simp [zset_v, hs1, hwj]) hW4.x)
            · exact zw_throw (cls := "java/lang/IllegalArgumentException") (names := ["java/lang/RuntimeException", "java/lang/Exception"]) (i := 4) K hE htab rfl (by decide +kernel) (by decide +kernel) q408 q41 rfl zh_A dX1_passOn_64 dX1_passOn_67 dX1_passOn_68 dX1_passOn_70 dX1_passOn_73 (Nat.le_of_ble_eq_true rfl) (Nat.le_of_ble_eq_true rfl) (Nat.le_of_ble_eq_true rfl) (Nat.le_of_ble_eq_true rfl) ⟨Nat.le_of_ble_eq_true rfl, Nat.le_of_ble_eq_true rfl⟩ (zPx.mk 2 (c := 3) (by rw [hres, if_pos (by rw [show (b == nI jw) = true by rw [if_pos hs1, hwj] at c61; simpa using c61, Bool.not_true, Bool.and_false])]) (by decide) rfl hW)
          · obtain ⟨h0, h3, hM⟩ := h
            have hM := hM.symm
            subst h0; subst hM
            exact zw_out K hE htab ⟨Nat.le_of_ble_eq_true rfl, Nat.le_of_ble_eq_true rfl⟩ (zPx.mk 2 (c := 3) (by rw [hres, if_pos (by rw [h3, Bool.and_false, Bool.false_and])]) (by decide) rfl hW)
        · obtain ⟨h0, h2, hM⟩ := h
          have hM := hM.symm
          subst h0; subst hM
          exact zw_out K hE htab ⟨Nat.le_of_ble_eq_true rfl, Nat.le_of_ble_eq_true rfl⟩ (zPx.mk 2 (c := 3) (by rw [hres, if_pos (by rw [h2, Bool.false_and, Bool.false_and])]) (by decide) rfl hW)
  · obtain ⟨h0, h1, hM⟩ := h
    have hM := hM.symm
    subst h0; subst hM
    exact zw_out K hE htab ⟨Nat.le_of_ble_eq_true rfl, Nat.le_of_ble_eq_true rfl⟩ (zPx.mk 0 (c := 1) (by simp [zop_passOn, h1]) (by decide) rfl hW)
