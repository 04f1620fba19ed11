/-! CartelWatch: a new tender -/
set_option maxRecDepth 100000
section ZWO
variable {w : zw_W} {M M1 : zw_M} {ad ad' : Nat → Nat → Nat → Nat} {σ μ : zS} {th : Int32} {o : Int64}
/-- the same cell by other addresses -/
theorem zcC_ad2 {k i j : Nat} (h0 : k = 0 → ad' 1 0 0 = ad 1 0 0 ∧ ad' 2 0 0 = ad 2 0 0 ∧ ad' 3 0 0 = ad 3 0 0)
    (h1 : k = 1 → i = 0 ∧ j = 0 → ∀ t, ad' 10 t 0 = ad 10 t 0) (h2 : k = 2 → i = 0 ∧ j = 0 → ∀ f, ad' 20 f 0 = ad 20 f 0)
    (h10 : k = 10 → i < zn σ → ad' 11 i 0 = ad 11 i 0) (h11 : k = 11 → i < zn σ → ∀ b, b < 7 → ad' 12 i b = ad 12 i b)
    (h20 : k = 20 → i < zg σ ∧ j = 0 → ad' 21 i 0 = ad 21 i 0 ∧ ad' 22 i 0 = ad 22 i 0 ∧ ad' 23 i 0 = ad 23 i 0 ∧ ad' 24 i 0 = ad 24 i 0 ∧ ad' 25 i 0 = ad 25 i 0)
    (h22 : k = 22 → i < zg σ ∧ j = 0 → ∀ q, ad' 10 ((zmt σ i).getD q 99) 0 = ad 10 ((zmt σ i).getD q 99) 0)
    (h23 : k = 23 → i < zg σ ∧ j = 0 → ∀ q, ad' 10 ((ztd σ i).getD q 99) 0 = ad 10 ((ztd σ i).getD q 99) 0) : zcC w ad' σ k i j = zcC w ad σ k i j := by
  unfold zcC
  split
  · split
    · rename_i ij
      split
      · rename_i z; obtain ⟨a1, a2, a3⟩ := h0 z; rw [a1, a2, a3]
      · split
        · rename_i z; rw [show (fun t => ad' 10 t 0) = (fun t => ad 10 t 0) from funext (h1 z ij)]
        · split
          · rename_i z; rw [show (fun f => ad' 20 f 0) = (fun f => ad 20 f 0) from funext (h2 z ij)]
          · rfl
    · rfl
  · split
    · split
      · rename_i hi
        split
        · rfl
        · split
          · rfl
          · split
            · rename_i z; rw [h10 z hi]
            · split
              · rename_i z
                congr 5
                funext b
                by_cases hb7 : b < 7
                · rw [if_pos hb7, if_pos hb7, h11 z hi b hb7]
                · rw [if_neg hb7, if_neg hb7]
              · rfl
      · rfl
    · split
      · rename_i ij
        split
        · rename_i z; obtain ⟨a1, a2, a3, a4, a5⟩ := h20 z ij; rw [a1, a2, a3, a4, a5]
        · split
          · rfl
          · split
            · rename_i z; rw [show (fun q => ad' 10 ((zmt σ i).getD q 99) 0) = (fun q => ad 10 ((zmt σ i).getD q 99) 0) from funext (h22 z ij)]
            · split
              · rename_i z; rw [show (fun q => ad' 10 ((ztd σ i).getD q 99) 0) = (fun q => ad 10 ((ztd σ i).getD q 99) 0) from funext (h23 z ij)]
              · rfl
      · rfl
theorem zcM_ad2 (hA : ∀ k, 100 ≤ k → ad' k 0 0 = ad k 0 0) {k : Nat} : zcM w ad' μ th o k = zcM w ad μ th o k := by
  unfold zcM zmob
  simp only [hA _ (show 100 ≤ 101 by decide), hA _ (show 100 ≤ 102 by decide), hA _ (show 100 ≤ 103 by decide), hA _ (show 100 ≤ 104 by decide), hA _ (show 100 ≤ 105 by decide), hA _ (show 100 ≤ 106 by decide), hA _ (show 100 ≤ 108 by decide), hA _ (show 100 ≤ 109 by decide), hA _ (show 100 ≤ 115 by decide), hA _ (show 100 ≤ 116 by decide), hA _ (show 100 ≤ 110 by decide), hA _ (show 100 ≤ 111 by decide), hA _ (show 100 ≤ 112 by decide), hA _ (show 100 ≤ 113 by decide), hA _ (show 100 ≤ 114 by decide)]
theorem zgetD_lt {l : List Nat} {n : Nat} (hl : ∀ t ∈ l, t < n) (hn : n < 99) (q : Nat) : l.getD q 99 ≠ n := by
  by_cases hq : q < l.length
  · have hm : l.getD q 99 ∈ l := by rw [List.getD_eq_getElem?_getD, List.getElem?_eq_getElem hq]; exact List.getElem_mem hq
    exact Nat.ne_of_lt (hl _ hm)
  · rw [List.getD_eq_getElem?_getD, List.getElem?_eq_none (by omega)]
    show 99 ≠ n
    omega
theorem zW.opens (h : zW w M ad σ μ th o) (hI : zI σ) (h30 : ¬ zn σ = 30) {q q2 : Nat} (hq : M q = none) (hq2 : M q2 = none) (hne : q ≠ q2)
    (f10 : M1 q = some (zw_eC 1 [.ref q2, .int 1, .int (-1), .int (-1), .int 0])) (f11 : M1 q2 = some (zw_eB w 7 (fun _ => none))) (f1 : M1 (ad 1 0 0) = some (zw_eL (zn σ + 1) (zlu (fun t => ad 10 t 0) (zn σ) q)))
    (hk : ∀ a e, a ≠ ad 1 0 0 → M a = some e → M1 a = some e) : zW w M1 (zad (zad ad 10 (zn σ) 0 q) 11 (zn σ) 0 q2) (zsetn (zset σ 2 (zn σ) (-1)) (zn σ + 1)) μ th o := by
  have hn30 := hI.n
  have A10 : zad (zad ad 10 (zn σ) 0 q) 11 (zn σ) 0 q2 10 (zn σ) 0 = q := (zad_n (by omega)).trans zad_s
  have A11 : zad (zad ad 10 (zn σ) 0 q) 11 (zn σ) 0 q2 11 (zn σ) 0 = q2 := zad_s
  have AN : ∀ k i j, ¬ ((k = 10 ∨ k = 11) ∧ i = zn σ ∧ j = 0) → zad (zad ad 10 (zn σ) 0 q) 11 (zn σ) 0 q2 k i j = ad k i j := fun k i j z => (zad_n (fun y => z ⟨Or.inr y.1, y.2⟩)).trans (zad_n (fun y => z ⟨Or.inl y.1, y.2⟩))
  generalize zad (zad ad 10 (zn σ) 0 q) 11 (zn σ) 0 q2 = ad' at A10 A11 AN ⊢
  obtain ⟨n0, n3, n4⟩ := hI.new (Nat.le_refl (zn σ))
  have hlt : zn σ < zn (zsetn (zset σ 2 (zn σ) (-1)) (zn σ + 1)) := Nat.lt_succ_self (zn σ)
  refine h.grow (fun k i j => (k = 10 ∨ k = 11) ∧ i = zn σ ∧ j = 0) (k1 := 1) (i1 := 0) (j1 := 0) (e1 := zw_eL (zn σ + 1) (zlu (fun t => ad 10 t 0) (zn σ) q)) AN ?_ ?_ (fun z => by omega) rfl ?_ f1 hk ?_
  · rintro k i j e9 ⟨hk9, rfl, rfl⟩ he
    rcases hk9 with rfl | rfl
    · rw [A10]
      refine ⟨hq, ?_⟩
      rw [zc_10 (σ := zsetn (zset σ 2 (zn σ) (-1)) (zn σ + 1)) hlt, A11, show zv (zsetn (zset σ 2 (zn σ) (-1)) (zn σ + 1)) 0 (zn σ) = 0 from n0, show zv (zsetn (zset σ 2 (zn σ) (-1)) (zn σ + 1)) 2 (zn σ) = -1 from zv_eq (σ := σ) ⟨rfl, rfl⟩, show zv (zsetn (zset σ 2 (zn σ) (-1)) (zn σ + 1)) 3 (zn σ) = 0 from n3, if_pos rfl, if_neg (by decide)] at he
      cases he
      exact f10
    · rw [A11]
      refine ⟨hq2, ?_⟩
      have e : (fun b => if b < 7 then (if zv (zsetn (zset σ 2 (zn σ) (-1)) (zn σ + 1)) 4 (7 * zn σ + b) = 0 then none else some (ad' 12 (zn σ) b)) else none) = (fun _ => none) := by
        funext b
        by_cases hb : b < 7
        · rw [if_pos hb]; exact if_pos (n4 b hb).1
        · rw [if_neg hb]
      rw [zc_11 (σ := zsetn (zset σ 2 (zn σ) (-1)) (zn σ + 1)) hlt, e] at he
      cases he
      exact f11
  · rintro k i j k' i' j' ⟨h1, rfl, rfl⟩ ⟨h2, rfl, rfl⟩ hq9
    rcases h1 with rfl | rfl
    · rcases h2 with rfl | rfl
      · exact ⟨rfl, rfl, rfl⟩
      · rw [A10, A11] at hq9; exact absurd hq9 hne
    · rcases h2 with rfl | rfl
      · rw [A10, A11] at hq9; exact absurd hq9.symm hne
      · exact ⟨rfl, rfl, rfl⟩
  · have e : (fun t => ad' 10 t 0) = zlu (fun t => ad 10 t 0) (zn σ) q := by
      funext t
      unfold zlu
      by_cases z : t = zn σ
      · rw [if_pos z, z, A10]
      · rw [if_neg z, AN 10 t 0 (by omega)]
    show some (zw_eL (zn σ + 1) (fun t => ad' 10 t 0)) = _
    rw [e]
  · intro k i j hn h1
    unfold zc
    split
    · have sA : zcC w ad' (zsetn (zset σ 2 (zn σ) (-1)) (zn σ + 1)) k i j = zcC w ad' (zset σ 2 (zn σ) (-1)) k i j := by
        unfold zcC
        by_cases k10 : k < 10
        · rw [if_pos k10, if_pos k10]
          by_cases ij : i = 0 ∧ j = 0
          · have k1 : ¬ k = 1 := fun z => h1 ⟨z, ij⟩
            rw [if_pos ij, if_pos ij, if_neg k1, if_neg k1]
            rfl
          · rw [if_neg ij, if_neg ij]
        · rw [if_neg k10, if_neg k10]
          by_cases k20 : k < 20
          · rw [if_pos k20, if_pos k20]
            by_cases hi : i = zn σ
            · have c1 : i < zn (zsetn (zset σ 2 (zn σ) (-1)) (zn σ + 1)) := by rw [hi]; exact hlt
              have c2 : ¬ i < zn (zset σ 2 (zn σ) (-1)) := by rw [hi]; exact Nat.lt_irrefl (zn σ)
              rw [if_pos c1, if_neg c2]
              by_cases k12 : k = 12
              · rw [if_pos k12, if_neg (fun z => z.2 (by rw [hi]; exact (n4 j z.1).1))]
              · rw [if_neg k12]
                by_cases hj : j = 0
                · rw [if_neg (fun z => z hj), if_neg (fun z => hn ⟨Or.inl z, hi, hj⟩), if_neg (fun z => hn ⟨Or.inr z, hi, hj⟩)]
                · rw [if_pos hj]
            · by_cases hl : i < zn σ
              · rw [if_pos (show i < zn (zsetn (zset σ 2 (zn σ) (-1)) (zn σ + 1)) from Nat.lt_succ_of_lt hl), if_pos (show i < zn (zset σ 2 (zn σ) (-1)) from hl)]
                rfl
              · rw [if_neg (show ¬ i < zn (zsetn (zset σ 2 (zn σ) (-1)) (zn σ + 1)) from fun z => hi (by have z : i < zn σ + 1 := z; omega)), if_neg (show ¬ i < zn (zset σ 2 (zn σ) (-1)) from hl)]
          · rw [if_neg k20, if_neg k20]
            rfl
      have sB : zcC w ad' (zset σ 2 (zn σ) (-1)) k i j = zcC w ad (zset σ 2 (zn σ) (-1)) k i j := zcC_ad2 (fun _ => ⟨AN 1 0 0 (by omega), AN 2 0 0 (by omega), AN 3 0 0 (by omega)⟩) (fun z y => absurd ⟨z, y⟩ h1) (fun _ _ f => AN 20 f 0 (by omega))
        (fun _ y => AN 11 i 0 (by have y : i < zn σ := y; omega)) (fun _ _ b _ => AN 12 i b (by omega)) (fun _ _ => ⟨AN 21 i 0 (by omega), AN 22 i 0 (by omega), AN 23 i 0 (by omega), AN 24 i 0 (by omega), AN 25 i 0 (by omega)⟩)
        (fun _ y q => AN 10 _ 0 (fun u => zgetD_lt (hI.ls (f := i) y.1).2.1 (by omega) q u.2.1)) (fun _ y q => AN 10 _ 0 (fun u => zgetD_lt (fun t ht => (hI.ls (f := i) y.1).2.1 t ((hI.ls (f := i) y.1).2.2.2 t ht)) (by omega) q u.2.1))
      have e : ∀ a i', a ≠ 2 → zv (zset σ 2 (zn σ) (-1)) a i' = zv σ a i' := fun a i' ha => zv_ne (fun z => ha z.1)
      have sC : zcC w ad (zset σ 2 (zn σ) (-1)) k i j = zcC w ad σ k i j := by
        by_cases hi : i = zn σ
        · by_cases kk : 10 ≤ k ∧ k < 20
          · unfold zcC
            have c2 : ¬ i < zn (zset σ 2 (zn σ) (-1)) := by rw [hi]; exact Nat.lt_irrefl (zn σ)
            rw [if_neg (by omega), if_pos kk.2, if_neg c2, if_neg (by omega), if_pos kk.2, if_neg (show ¬ i < zn σ from c2)]
          · exact zcC_congr rfl rfl (fun _ => e 6 0 (by decide)) (fun _ => by funext i; exact e 13 i (by decide)) (fun z => by omega) (fun z => by omega) (fun z => by omega)
              (fun _ => ⟨e 9 _ (by decide), e 12 _ (by decide)⟩) (fun _ => ⟨e 7 _ (by decide), e 8 _ (by decide)⟩) (fun _ => rfl) (fun _ => rfl) (fun _ => zpr_ne (by decide) (by decide) (by decide)) (fun _ => zpr_ne (by decide) (by decide) (by decide))
        · exact zcC_congr rfl rfl (fun _ => e 6 0 (by decide)) (fun _ => by funext i; exact e 13 i (by decide)) (fun _ _ a _ => zv_ne (by omega)) (fun _ _ b _ => by rw [e 4 _ (by decide)]) (fun _ _ => ⟨e 4 _ (by decide), e 5 _ (by decide)⟩)
            (fun _ => ⟨e 9 _ (by decide), e 12 _ (by decide)⟩) (fun _ => ⟨e 7 _ (by decide), e 8 _ (by decide)⟩) (fun _ => rfl) (fun _ => rfl) (fun _ => zpr_ne (by decide) (by decide) (by decide)) (fun _ => zpr_ne (by decide) (by decide) (by decide))
      rw [sA, sB, sC]
    · rw [zcM_ad2 (fun k hk => AN k 0 0 (by omega))]
end ZWO
theorem zI.c30 {σ : zS} (hI : zI σ) (h : ¬ (30 : Int32) ≤ nI (zn σ)) : ¬ zn σ = 30 := fun z => h (by rw [z]; decide)
theorem zI.d30 {σ : zS} (hI : zI σ) (h : (30 : Int32) ≤ nI (zn σ)) : zn σ = 30 := by
  have := hI.n
  have z : nI 30 ≤ nI (zn σ) := h
  rw [nI_leI (by decide) (by omega)] at z
  omega
theorem zsub1 (n : Nat) : nI (n + 1) - 1 = nI n := by rw [← nI_1]; exact Int32.add_sub_cancel _ _
set_option maxHeartbeats 2000000 in
theorem ct_X1_open {w : zw_W} {la : Launch} (hl : la.stackTraces = false) {M : zw_M} {ad : Nat → Nat → Nat → Nat} {σ μ : zS} {th : Int32} {o : Int64} (hW : zW w M ad σ μ th o) (hI : zI σ) : zw_C w la yX1_open cX1_open 1 (Option.some Jvm.ClassFile.FieldType.int) (zr 8 4 82) [.ref (ad 0 0 0)] M (zw_pi (zPo w ad μ th o (zop_tender σ))) (zPx ["java/lang/IllegalStateException"] w ad σ μ th o (zop_tender σ)) := by
  refine zw_enter RX1 rfl (by decide) hl (by simp [Value.category]) (Nat.le_of_ble_eq_true rfl) (fun X hXl hXw K hE htab hcon => ?_)
  subst hXl; subst hXw
  show zw_Z X _ 0 0 0 [some (.ref (ad 0 0 0))] []
  refine zw_aload_n (v := .ref (ad 0 0 0)) (pc' := 1) K dX1_open_0 rfl rfl rfl ?_
  refine zg_X1_26 (v := .ref (ad 1 0 0)) (pc' := 4) K hW.c0 rfl dX1_open_1 rfl ?_
  refine zc_X1_1 (rest := []) (c' := 0) (n' := 0) (pc' := 9) K (ct_J2_size hl M (ad 1 0 0) hW.c1) hW.c1 rfl rfl dX1_open_4 rfl (Nat.le_of_ble_eq_true rfl) ⟨Nat.le_of_ble_eq_true rfl, Nat.le_of_ble_eq_true rfl⟩ ⟨Nat.le_of_ble_eq_true rfl, Nat.le_of_ble_eq_true rfl, Nat.le_of_ble_eq_true rfl, Nat.le_of_ble_eq_true rfl⟩ (zw_kp ?_) zw_kn
  refine zw_bipush (v := 30) (pc' := 11) K dX1_open_9 (by decide) rfl ?_
  refine zw_icmp_ge (tgt := 18) (pc' := 14) K dX1_open_11 (by decide) rfl (fun c11 => ?_) (fun c11 => ?_)
  · refine zw_iconst (v := 0) (pc' := 19) K dX1_open_18 (by decide) rfl ?_
    refine zc_X1_75 (rest := []) (c' := 1) (n' := 6) (pc' := 22) K (ct_X1_must hl M false) rfl rfl dX1_open_19 rfl (Nat.le_of_ble_eq_true rfl) ⟨Nat.le_of_ble_eq_true rfl, Nat.le_of_ble_eq_true rfl⟩ ⟨Nat.le_of_ble_eq_true rfl, Nat.le_of_ble_eq_true rfl, Nat.le_of_ble_eq_true rfl, Nat.le_of_ble_eq_true rfl⟩ (zw_kv fun M1 h => absurd h.1 (by decide)) (fun E M1 h => ?_)
    obtain ⟨h0, -, hM⟩ := h
    have hM := hM.symm
    subst h0; subst hM
    exact zw_out K hE htab ⟨Nat.le_of_ble_eq_true rfl, Nat.le_of_ble_eq_true rfl⟩ (zPx.mk 0 (c := 1) (by unfold zop_tender; rw [if_pos (hI.d30 c11)]) (by decide) rfl hW)
  · refine zw_iconst (v := 1) (pc' := 15) K dX1_open_14 (by decide) rfl ?_
    refine zw_goto (tgt := 19) K dX1_open_15 (by decide) ?_
    refine zc_X1_75 (rest := []) (c' := 1) (n' := 6) (pc' := 22) K (ct_X1_must hl M true) rfl rfl dX1_open_19 rfl (Nat.le_of_ble_eq_true rfl) ⟨Nat.le_of_ble_eq_true rfl, Nat.le_of_ble_eq_true rfl⟩ ⟨Nat.le_of_ble_eq_true rfl, Nat.le_of_ble_eq_true rfl, Nat.le_of_ble_eq_true rfl, Nat.le_of_ble_eq_true rfl⟩ (zw_kv fun M1 h => ?_) (fun E M1 h => absurd h.2.1 (by decide))
    obtain ⟨-, hM⟩ := h
    have hM := hM.symm
    subst hM
    have h30 := hI.c30 c11
    refine zw_aload_n (v := .ref (ad 0 0 0)) (pc' := 23) K dX1_open_22 rfl rfl rfl ?_
    refine zg_X1_26 (v := .ref (ad 1 0 0)) (pc' := 26) K hW.c0 rfl dX1_open_23 rfl ?_
    refine zw_new (c' := 2) (n' := 11) (pc' := 29) (fs := [.null, .int 0, .int 0, .int 0, .int 0]) K in_X3 (ci := 1) rfl tyX3 tyX3_ok q156 q267 q31 (by decide +kernel) ⟨Nat.le_of_ble_eq_true rfl, Nat.le_of_ble_eq_true rfl, Nat.le_of_ble_eq_true rfl, Nat.le_of_ble_eq_true rfl⟩ dX1_open_26 rfl (fun q hq => ?_)
    refine zw_nmM (fun M1 eM1 => ?_)
    have f2 : M1 (ad 0 0 0) = some (zw_eC 0 [.ref (ad 1 0 0), .ref (ad 2 0 0), .ref (ad 3 0 0), .int (zv σ 6 0)]) := by rw [eM1]; exact zw_un' (zw_nn hW.c0 hq) hW.c0
    have f3 : M1 (ad 1 0 0) = some (zw_eL (zn σ) (fun t => ad 10 t 0)) := by rw [eM1]; exact zw_un' (zw_nn hW.c1 hq) hW.c1
    have f4 : M1 (ad 2 0 0) = some (zw_eL (zg σ) (fun f => ad 20 f 0)) := by rw [eM1]; exact zw_un' (zw_nn hW.c2 hq) hW.c2
    have f5 : M1 (ad 3 0 0) = some (zw_eI (zw_Xw X) 7 (zv σ 13)) := by rw [eM1]; exact zw_un' (zw_nn hW.c3 hq) hW.c3
    have f6 : M1 q = some (zw_eC 1 [.null, .int 0, .int 0, .int 0, .int 0]) := by rw [eM1]; exact zw_us
    refine zw_dup (pc' := 30) K dX1_open_29 rfl rfl ?_
    refine zc_X1_81 (rest := [.ref q, .ref (ad 1 0 0)]) (c' := 3) (n' := 18) (pc' := 33) K (ct_X3_init hl M1 q f6) rfl rfl dX1_open_30 rfl (Nat.le_of_ble_eq_true rfl) ⟨Nat.le_of_ble_eq_true rfl, Nat.le_of_ble_eq_true rfl⟩ ⟨Nat.le_of_ble_eq_true rfl, Nat.le_of_ble_eq_true rfl, Nat.le_of_ble_eq_true rfl, Nat.le_of_ble_eq_true rfl⟩ (zw_kv fun Ma h => ?_) zw_kn
    obtain ⟨q2, hq2, hMa⟩ := h
    have hqq : q ≠ q2 := zw_nn f6 hq2
    have up2 : ∀ a e, M a = some e → M1 a = some e := fun a e he => by rw [eM1]; exact zw_un' (zw_nn he hq) he
    have hka : ∀ a e, M a = some e → Ma a = some e := fun a e he => by rw [hMa]; exact zw_un' (zw_nn he hq) (zw_un' (zw_nn (up2 a e he) hq2) (up2 a e he))
    have hq2m : M q2 = none := by cases hz : M q2 with | none => rfl | some e => have z := up2 q2 e hz; rw [hq2] at z; cases z
    have hWa : zW (zw_Xw X) Ma ad σ μ th o := hW.keep hka
    have fq : Ma q = some (zw_eC 1 [.ref q2, .int 1, .int (-1), .int (-1), .int 0]) := by rw [hMa]; exact zw_us
    have fq2 : Ma q2 = some (zw_eB (zw_Xw X) 7 (fun _ => none)) := by rw [hMa]; exact zw_un' (Ne.symm hqq) zw_us
    refine zc_X1_82 (rest := []) (c' := 4) (n' := 82) (pc' := 38) K (ct_J2_add hl Ma (ad 1 0 0) (zn σ) q hWa.c1 hI.n ⟨1, _, _, rfl, fq, q881⟩ (fun i hi => zlk_T hWa hi)) hWa.c1 rfl rfl dX1_open_33 rfl (Nat.le_of_ble_eq_true rfl) ⟨Nat.le_of_ble_eq_true rfl, Nat.le_of_ble_eq_true rfl⟩ ⟨Nat.le_of_ble_eq_true rfl, Nat.le_of_ble_eq_true rfl, Nat.le_of_ble_eq_true rfl, Nat.le_of_ble_eq_true rfl⟩ (zw_ki fun r Mb h => ?_) zw_kn
    obtain ⟨hr, hMb⟩ := h
    subst hr
    have n01 : ad 0 0 0 ≠ ad 1 0 0 := zw_ne hW.c0 hW.c1 (by simp)
    have g1 : Mb (ad 1 0 0) = some (zw_eL (zn σ + 1) (zlu (fun t => ad 10 t 0) (zn σ) q)) := by rw [hMb]; exact zw_us
    have g0 : Mb (ad 0 0 0) = some (zw_eC 0 [.ref (ad 1 0 0), .ref (ad 2 0 0), .ref (ad 3 0 0), .int (zv σ 6 0)]) := by rw [hMb]; exact zw_un' n01 hWa.c0
    have hWb : zW (zw_Xw X) Mb (zad (zad ad 10 (zn σ) 0 q) 11 (zn σ) 0 q2) (zsetn (zset σ 2 (zn σ) (-1)) (zn σ + 1)) μ th o := hW.opens hI h30 hq hq2m hqq (by rw [hMb]; exact zw_un' (zw_ne fq hWa.c1 (by simp)) fq) (by rw [hMb]; exact zw_un' (zw_ne fq2 hWa.c1 (by simp)) fq2) g1 (fun a e ha he => by rw [hMb]; exact zw_un' ha (hka a e he))
    refine zw_pop (pc' := 39) K dX1_open_38 rfl rfl ?_
    refine zw_aload_n (v := .ref (ad 0 0 0)) (pc' := 40) K dX1_open_39 rfl rfl rfl ?_
    refine zg_X1_26 (v := .ref (ad 1 0 0)) (pc' := 43) K g0 rfl dX1_open_40 rfl ?_
    refine zc_X1_1 (rest := []) (c' := 4) (n' := 82) (pc' := 48) K (ct_J2_size hl Mb (ad 1 0 0) g1) g1 rfl rfl dX1_open_43 rfl (Nat.le_of_ble_eq_true rfl) ⟨Nat.le_of_ble_eq_true rfl, Nat.le_of_ble_eq_true rfl⟩ ⟨Nat.le_of_ble_eq_true rfl, Nat.le_of_ble_eq_true rfl, Nat.le_of_ble_eq_true rfl, Nat.le_of_ble_eq_true rfl⟩ (zw_kp ?_) zw_kn
    refine zw_iconst (v := 1) (pc' := 49) K dX1_open_48 (by decide) rfl ?_
    refine zw_isub (pc' := 50) K dX1_open_49 rfl ?_
    exact zw_iret K hE dX1_open_50 ⟨Nat.le_of_ble_eq_true rfl, Nat.le_of_ble_eq_true rfl⟩ (zPo.mk (σ' := zsetn (zset σ 2 (zn σ) (-1)) (zn σ + 1)) (by unfold zop_tender; rw [if_neg h30, zsub1]) ⟨_, (zad_n (by omega)).trans (zad_n (by omega)), (zad_n (by omega)).trans (zad_n (by omega)), (zad_n (by omega)).trans (zad_n (by omega)), hWb⟩)
