/-! CartelWatch: tell -/
set_option maxRecDepth 100000
theorem zlin_mem {w : zw_W} {M : zw_M} {ad : Nat → Nat → Nat → Nat} {σ μ : zS} {th : Int32} {o : Int64} (h : zW w M ad σ μ th o) {l : List Nat} {i : Nat} (hi : i < zn σ) (hl : ∀ t ∈ l, t < zn σ) : zlin (fun q => ad 10 (l.getD q 99) 0) (ad 10 i 0) l.length = decide (i ∈ l) := by
  have live : ∀ t, t < zn σ → (zc w ad σ μ th o 10 t 0).isSome = true := fun t ht => by rw [zc_10 ht]; rfl
  rw [Bool.eq_iff_iff, zlin_iff, decide_eq_true_eq]
  constructor
  · rintro ⟨q, hq, e⟩
    have hm : l.getD q 99 ∈ l := by rw [List.getD_eq_getElem?_getD, List.getElem?_eq_getElem hq]; exact List.getElem_mem hq
    obtain ⟨-, z, -⟩ := h.2 10 (l.getD q 99) 0 10 i 0 (live _ (hl _ hm)) (live _ hi) e
    rw [← z]; exact hm
  · intro hm
    obtain ⟨q, hq, e⟩ := List.getElem_of_mem hm
    refine ⟨q, hq, ?_⟩
    show ad 10 (l.getD q 99) 0 = ad 10 i 0
    rw [List.getD_eq_getElem?_getD, List.getElem?_eq_getElem hq, ← e]; rfl
theorem zlu_app (ad : Nat → Nat → Nat → Nat) (l : List Nat) (i : Nat) : zlu (fun q => ad 10 (l.getD q 99) 0) l.length (ad 10 i 0) = (fun q => ad 10 ((l ++ [i]).getD q 99) 0) := by
  funext q
  unfold zlu
  rcases Nat.lt_trichotomy q l.length with h | h | h
  · rw [if_neg (by omega)]
    simp only [List.getD_eq_getElem?_getD]
    rw [List.getElem?_append_left h]
  · subst h; rw [if_pos rfl]; simp [List.getD_eq_getElem?_getD]
  · rw [if_neg (by omega)]
    simp only [List.getD_eq_getElem?_getD]
    rw [List.getElem?_eq_none (by omega), List.getElem?_eq_none (by simp; omega)]
theorem zlen_le {l : List Nat} (hl : l.Nodup) {n : Nat} (h : ∀ t ∈ l, t < n) : l.length ≤ n := by
  have key : ∀ k, (l.filter (fun t => decide (t < k))).length ≤ k := by
    intro k
    induction k with
    | zero => rw [List.filter_eq_nil_iff.mpr (by simp)]; exact Nat.le_refl 0
    | succ k ih => rw [zcnt_s hl k]; split <;> omega
  have := key n
  rwa [List.filter_eq_self.mpr (fun t ht => by simpa using h t ht)] at this
theorem zset_comm {μ : zS} {v i v' i' : Nat} {x y : Int32} (h : v ≠ v') : zset (zset μ v i x) v' i' y = zset (zset μ v' i' y) v i x := by
  have e : (fun a c => if a = v' ∧ c = i' then y else if a = v ∧ c = i then x else μ.2.2.1 a c) = (fun a c => if a = v ∧ c = i then x else if a = v' ∧ c = i' then y else μ.2.2.1 a c) := by
    funext a c
    by_cases h1 : a = v' ∧ c = i'
    · rw [if_pos h1, if_neg (fun q => h (q.1.symm.trans h1.1)), if_pos h1]
    · rw [if_neg h1]
      by_cases h2 : a = v ∧ c = i
      · rw [if_pos h2, if_pos h2]
      · rw [if_neg h2, if_neg h2, if_neg h1]
  exact congrArg (fun z => (μ.1, μ.2.1, z, μ.2.2.2.1, μ.2.2.2.2)) e
theorem ztell_x {σ : zS} {f b t c : Int32} (h : ztellc σ f b t = c) (hc : ¬ c = 0) : zop_tell σ f b t = (0, c, σ) := by
  have e : zfresh σ f b t = false := by unfold zfresh; rw [h, show (c == 0) = false by simpa using hc]; rfl
  unfold zop_tell
  rw [e, h]
  rfl
theorem zI.ne78 {σ : zS} (hI : zI σ) {f : Nat} (hf : f < zg σ) : zv σ 7 f ≠ zv σ 8 f := by
  obtain ⟨⟨a, b, h1, h2, h3, h4⟩, -⟩ := hI.fi hf
  rw [h3, h4]
  exact fun z => absurd ((nI_eq (by omega) (by omega)).mp z) (by omega)
theorem zlk_T {w : zw_W} {M : zw_M} {ad : Nat → Nat → Nat → Nat} {σ μ : zS} {th : Int32} {o : Int64} (h : zW w M ad σ μ th o) {i : Nat} (hi : i < zn σ) : zlk M (ad 10 i 0) := ⟨1, _, _, rfl, h.c10 hi, q881⟩
theorem zlk_l {w : zw_W} {M : zw_M} {ad : Nat → Nat → Nat → Nat} {σ μ : zS} {th : Int32} {o : Int64} (h : zW w M ad σ μ th o) {l : List Nat} (hl : ∀ t ∈ l, t < zn σ) : ∀ q, q < l.length → zlk M (ad 10 (l.getD q 99) 0) := fun q hq =>
  zlk_T h (hl _ (by rw [List.getD_eq_getElem?_getD, List.getElem?_eq_getElem hq]; exact List.getElem_mem hq))
set_option maxHeartbeats 2000000 in
theorem ct_X1_tell {w : zw_W} {la : Launch} (hl : la.stackTraces = false) {M : zw_M} {ad : Nat → Nat → Nat → Nat} {σ μ : zS} {th : Int32} {o : Int64} (hW : zW w M ad σ μ th o) (hI : zI σ) (f b t : Int32) : zw_C w la yX1_tell cX1_tell 7 (Option.some Jvm.ClassFile.FieldType.boolean) (zr 8 5 88) [.ref (ad 0 0 0), .int f, .int b, .int t] M (zw_pi (zPo w ad μ th o (zop_tell σ f b t))) (zPx ["java/lang/IndexOutOfBoundsException", "java/lang/IllegalArgumentException", "java/lang/IllegalStateException"] w ad σ μ th o (zop_tell σ f b t)) := by
  refine zw_enter RX1 rfl (by decide) hl (by simp [Value.category]) (Nat.le_of_ble_eq_true rfl) (fun X hXl hXw K hE htab hcon => ?_)
  subst hXl; subst hXw
  show zw_Z X _ 0 0 0 [some (.ref (ad 0 0 0)), some (.int f), some (.int b), some (.int t), none, none, none] []
  refine zw_aload_n (v := .ref (ad 0 0 0)) (pc' := 1) K dX1_tell_0 rfl rfl rfl ?_
  refine zg_X1_32 (v := .ref (ad 2 0 0)) (pc' := 4) K hW.c0 rfl dX1_tell_1 rfl ?_
  refine zw_iload_n (x := f) (pc' := 5) K dX1_tell_4 rfl rfl ?_
  refine zc_X1_86 (rest := []) (c' := 1) (n' := 6) (pc' := 8) K (ct_X1_at hl M (ad 2 0 0) (zg σ) f hW.c2 (by have := hI.g; omega)) rfl rfl dX1_tell_5 rfl (Nat.le_of_ble_eq_true rfl) ⟨Nat.le_of_ble_eq_true rfl, Nat.le_of_ble_eq_true rfl⟩ ⟨Nat.le_of_ble_eq_true rfl, Nat.le_of_ble_eq_true rfl, Nat.le_of_ble_eq_true rfl, Nat.le_of_ble_eq_true rfl⟩ (zw_kr fun r M1 h => ?_) (fun E M1 h => ?_)
  · obtain ⟨hr, h1, hM⟩ := h
    have hM := hM.symm
    subst hM
    obtain ⟨j, hj, ej⟩ := zin_of h1 (by have := hI.g; omega)
    subst ej
    have hr : r = some (ad 20 j 0) := by rw [hr, zx_n (by have := hI.g; omega)]
    subst hr
    refine zw_cast (ci := 4) (pc' := 11) K rfl q536 (hW.c20 hj) dX1_tell_8 rfl ?_
    refine zw_astore (lv' := [some (.ref (ad 0 0 0)), some (.int (nI j)), some (.int b), some (.int t), some (.ref (ad 20 j 0)), none, none]) (pc' := 13) K dX1_tell_11 rfl (by decide) rfl rfl ?_
    refine zw_aload_n (v := .ref (ad 0 0 0)) (pc' := 14) K dX1_tell_13 rfl rfl rfl ?_
    refine zg_X1_26 (v := .ref (ad 1 0 0)) (pc' := 17) K hW.c0 rfl dX1_tell_14 rfl ?_
    refine zw_iload_n (x := t) (pc' := 18) K dX1_tell_17 rfl rfl ?_
    refine zc_X1_86 (rest := []) (c' := 2) (n' := 12) (pc' := 21) K (ct_X1_at hl M (ad 1 0 0) (zn σ) t hW.c1 (by have := hI.n; omega)) rfl rfl dX1_tell_18 rfl (Nat.le_of_ble_eq_true rfl) ⟨Nat.le_of_ble_eq_true rfl, Nat.le_of_ble_eq_true rfl⟩ ⟨Nat.le_of_ble_eq_true rfl, Nat.le_of_ble_eq_true rfl, Nat.le_of_ble_eq_true rfl, Nat.le_of_ble_eq_true rfl⟩ (zw_kr fun r M1 h => ?_) (fun E M1 h => ?_)
    · obtain ⟨hr, h2, hM⟩ := h
      have hM := hM.symm
      subst hM
      obtain ⟨i, hi, ei⟩ := zin_of h2 (by have := hI.n; omega)
      subst ei
      have hr : r = some (ad 10 i 0) := by rw [hr, zx_n (by have := hI.n; omega)]
      subst hr
      refine zw_cast (ci := 1) (pc' := 24) K rfl q156 (hW.c10 hi) dX1_tell_21 rfl ?_
      refine zw_astore (lv' := [some (.ref (ad 0 0 0)), some (.int (nI j)), some (.int b), some (.int (nI i)), some (.ref (ad 20 j 0)), some (.ref (ad 10 i 0)), none]) (pc' := 26) K dX1_tell_24 rfl (by decide) rfl rfl ?_
      refine zw_aload (v := .ref (ad 20 j 0)) (pc' := 28) K dX1_tell_26 rfl rfl rfl ?_
      refine zw_iload_n (x := b) (pc' := 29) K dX1_tell_28 rfl rfl ?_
      refine zc_X1_189 (rest := []) (c' := 3) (n' := 18) (pc' := 32) K (ct_X1_belongs hl M (ad 20 j 0) b (hW.c20 hj) (hW.c21 hj)) rfl rfl dX1_tell_29 rfl (Nat.le_of_ble_eq_true rfl) ⟨Nat.le_of_ble_eq_true rfl, Nat.le_of_ble_eq_true rfl⟩ ⟨Nat.le_of_ble_eq_true rfl, Nat.le_of_ble_eq_true rfl, Nat.le_of_ble_eq_true rfl, Nat.le_of_ble_eq_true rfl⟩ (zw_kv fun M1 h => ?_) (fun E M1 h => ?_)
      · obtain ⟨h3, hM⟩ := h
        have hM := hM.symm
        subst hM
        obtain ⟨k, hk, ek⟩ := zof_bid hI hj h3
        subst ek
        refine zw_aload (v := .ref (ad 20 j 0)) (pc' := 34) K dX1_tell_32 rfl rfl rfl ?_
        refine zg_X1_193 (v := .int (zv σ 12 j)) (pc' := 37) K (hW.c20 hj) rfl dX1_tell_34 rfl ?_
        refine zw_if_ne (tgt := 44) (pc' := 40) K dX1_tell_37 (by decide) rfl (fun c37 => ?_) (fun c37 => ?_)
        · refine zw_iconst (v := 0) (pc' := 45) K dX1_tell_44 (by decide) rfl ?_
          refine zc_X1_75 (rest := []) (c' := 4) (n' := 24) (pc' := 48) K (ct_X1_must hl M false) rfl rfl dX1_tell_45 rfl (Nat.le_of_ble_eq_true rfl) ⟨Nat.le_of_ble_eq_true rfl, Nat.le_of_ble_eq_true rfl⟩ ⟨Nat.le_of_ble_eq_true rfl, Nat.le_of_ble_eq_true rfl, Nat.le_of_ble_eq_true rfl, Nat.le_of_ble_eq_true rfl⟩ (zw_kv fun M1 h => absurd h.1 (by decide)) (fun E M1 h => ?_)
          obtain ⟨h0, -, hM⟩ := h
          have hM := hM.symm
          subst h0; subst hM
          exact zw_out K hE htab ⟨Nat.le_of_ble_eq_true rfl, Nat.le_of_ble_eq_true rfl⟩ (zPx.mk 2 (c := 3) (ztell_x (by unfold ztellc; rw [if_neg (by simp [h1, h2])]; rw [zx_n (by have := hI.g; omega : j < 2 ^ 31), if_neg (by rw [show zof σ j (nI k) = true from h3]; decide), if_neg c37]) (by decide)) (by decide) rfl hW)
        · refine zw_iconst (v := 1) (pc' := 41) K dX1_tell_40 (by decide) rfl ?_
          refine zw_goto (tgt := 45) K dX1_tell_41 (by decide) ?_
          refine zc_X1_75 (rest := []) (c' := 4) (n' := 24) (pc' := 48) K (ct_X1_must hl M true) rfl rfl dX1_tell_45 rfl (Nat.le_of_ble_eq_true rfl) ⟨Nat.le_of_ble_eq_true rfl, Nat.le_of_ble_eq_true rfl⟩ ⟨Nat.le_of_ble_eq_true rfl, Nat.le_of_ble_eq_true rfl, Nat.le_of_ble_eq_true rfl, Nat.le_of_ble_eq_true rfl⟩ (zw_kv fun M1 h => ?_) (fun E M1 h => absurd h.2.1 (by decide))
          obtain ⟨-, hM⟩ := h
          have hM := hM.symm
          subst hM
          have hcd : ztellc σ (nI j) (nI k) (nI i) = 0 := by unfold ztellc; rw [if_neg (by simp [h1, h2]), zx_n (by have := hI.g; omega : j < 2 ^ 31), if_neg (by rw [show zof σ j (nI k) = true from h3]; decide), if_pos c37]
          have hfr : zfresh σ (nI j) (nI k) (nI i) = (decide (i ∈ zmt σ j) && !decide (i ∈ ztd σ j)) := by unfold zfresh; rw [hcd, zx_n (by have := hI.g; omega : j < 2 ^ 31), zx_n (by have := hI.n; omega : i < 2 ^ 31)]; rfl
          have hres : zop_tell σ (nI j) (nI k) (nI i) = (zb (decide (i ∈ zmt σ j) && !decide (i ∈ ztd σ j)), 0, if (decide (i ∈ zmt σ j) && !decide (i ∈ ztd σ j)) = true then ztold σ j i (nI k) else σ) := by unfold zop_tell; rw [hfr, hcd, zx_n (by have := hI.g; omega : j < 2 ^ 31), zx_n (by have := hI.n; omega : i < 2 ^ 31)]
          obtain ⟨hm1, hm2, ht1, ht2⟩ := hI.ls hj
          have ht3 : ∀ t ∈ ztd σ j, t < zn σ := fun t ht => hm2 t (ht2 t ht)
          have hlm : (zmt σ j).length ≤ 30 := Nat.le_trans (zlen_le hm1 hm2) hI.n
          have hlt : (ztd σ j).length ≤ 30 := Nat.le_trans (zlen_le ht1 ht3) hI.n
          refine zw_aload (v := .ref (ad 20 j 0)) (pc' := 50) K dX1_tell_48 rfl rfl rfl ?_
          refine zg_X1_181 (v := .ref (ad 22 j 0)) (pc' := 53) K (hW.c20 hj) rfl dX1_tell_50 rfl ?_
          refine zw_aload (v := .ref (ad 10 i 0)) (pc' := 55) K dX1_tell_53 rfl rfl rfl ?_
          have z22 := ct_J2_contains (w := zw_Xw X) hl M (ad 22 j 0) (zmt σ j).length (ad 10 i 0) (hW.c22 hj) (by omega) (hW.c10 hi)
          rw [zlin_mem hW hi hm2] at z22
          refine zc_X1_196 (rest := []) (c' := 4) (n' := 24) (pc' := 60) K (z22) (hW.c22 hj) rfl rfl dX1_tell_55 rfl (Nat.le_of_ble_eq_true rfl) ⟨Nat.le_of_ble_eq_true rfl, Nat.le_of_ble_eq_true rfl⟩ ⟨Nat.le_of_ble_eq_true rfl, Nat.le_of_ble_eq_true rfl, Nat.le_of_ble_eq_true rfl, Nat.le_of_ble_eq_true rfl⟩ (zw_kp ?_) zw_kn
          refine zw_if_eq (tgt := 82) (pc' := 63) K dX1_tell_60 (by decide) rfl (fun c60 => ?_) (fun c60 => ?_)
          · have c60 := zb_0.mp c60
            refine zw_iconst (v := 0) (pc' := 83) K dX1_tell_82 (by decide) rfl ?_
            refine zw_istore (lv' := [some (.ref (ad 0 0 0)), some (.int (nI j)), some (.int (nI k)), some (.int (nI i)), some (.ref (ad 20 j 0)), some (.ref (ad 10 i 0)), some (.int 0)]) (pc' := 85) K dX1_tell_83 (by decide) rfl rfl ?_
            refine zw_iload (x := 0) (pc' := 87) K dX1_tell_85 rfl rfl ?_
            refine zw_if_eq (tgt := 137) (pc' := 90) K dX1_tell_87 (by decide) rfl (fun c87 => ?_) (fun c87 => by exact absurd rfl c87)
            refine zw_iload (x := 0) (pc' := 139) K dX1_tell_137 rfl rfl ?_
            exact zw_zret K hE rfl dX1_tell_139 ⟨Nat.le_of_ble_eq_true rfl, Nat.le_of_ble_eq_true rfl⟩ (zPo.mk (by rw [hres, show (decide (i ∈ zmt σ j) && !decide (i ∈ ztd σ j)) = false by rw [c60, Bool.false_and]]; rfl) hW.x)
          · have c60 := zb_nz.mp c60
            refine zw_aload (v := .ref (ad 20 j 0)) (pc' := 65) K dX1_tell_63 rfl rfl rfl ?_
            refine zg_X1_199 (v := .ref (ad 23 j 0)) (pc' := 68) K (hW.c20 hj) rfl dX1_tell_65 rfl ?_
            refine zw_aload (v := .ref (ad 10 i 0)) (pc' := 70) K dX1_tell_68 rfl rfl rfl ?_
            have z23 := ct_J2_contains (w := zw_Xw X) hl M (ad 23 j 0) (ztd σ j).length (ad 10 i 0) (hW.c23 hj) (by omega) (hW.c10 hi)
            rw [zlin_mem hW hi ht3] at z23
            refine zc_X1_196 (rest := []) (c' := 4) (n' := 24) (pc' := 75) K (z23) (hW.c23 hj) rfl rfl dX1_tell_70 rfl (Nat.le_of_ble_eq_true rfl) ⟨Nat.le_of_ble_eq_true rfl, Nat.le_of_ble_eq_true rfl⟩ ⟨Nat.le_of_ble_eq_true rfl, Nat.le_of_ble_eq_true rfl, Nat.le_of_ble_eq_true rfl, Nat.le_of_ble_eq_true rfl⟩ (zw_kp ?_) zw_kn
            refine zw_if_ne (tgt := 82) (pc' := 78) K dX1_tell_75 (by decide) rfl (fun c75 => ?_) (fun c75 => ?_)
            · have c75 := zb_nz.mp c75
              refine zw_iconst (v := 0) (pc' := 83) K dX1_tell_82 (by decide) rfl ?_
              refine zw_istore (lv' := [some (.ref (ad 0 0 0)), some (.int (nI j)), some (.int (nI k)), some (.int (nI i)), some (.ref (ad 20 j 0)), some (.ref (ad 10 i 0)), some (.int 0)]) (pc' := 85) K dX1_tell_83 (by decide) rfl rfl ?_
              refine zw_iload (x := 0) (pc' := 87) K dX1_tell_85 rfl rfl ?_
              refine zw_if_eq (tgt := 137) (pc' := 90) K dX1_tell_87 (by decide) rfl (fun c87 => ?_) (fun c87 => by exact absurd rfl c87)
              refine zw_iload (x := 0) (pc' := 139) K dX1_tell_137 rfl rfl ?_
              exact zw_zret K hE rfl dX1_tell_139 ⟨Nat.le_of_ble_eq_true rfl, Nat.le_of_ble_eq_true rfl⟩ (zPo.mk (by rw [hres, show (decide (i ∈ zmt σ j) && !decide (i ∈ ztd σ j)) = false by rw [c60, c75, Bool.not_true, Bool.and_false]]; rfl) hW.x)
            · have c75 := zb_0.mp c75
              refine zw_iconst (v := 1) (pc' := 79) K dX1_tell_78 (by decide) rfl ?_
              refine zw_goto (tgt := 83) K dX1_tell_79 (by decide) ?_
              refine zw_istore (lv' := [some (.ref (ad 0 0 0)), some (.int (nI j)), some (.int (nI k)), some (.int (nI i)), some (.ref (ad 20 j 0)), some (.ref (ad 10 i 0)), some (.int 1)]) (pc' := 85) K dX1_tell_83 (by decide) rfl rfl ?_
              refine zw_iload (x := 1) (pc' := 87) K dX1_tell_85 rfl rfl ?_
              refine zw_if_eq (tgt := 137) (pc' := 90) K dX1_tell_87 (by decide) rfl (fun c87 => by exact absurd c87 (by decide)) (fun c87 => ?_)
              refine zw_aload (v := .ref (ad 20 j 0)) (pc' := 92) K dX1_tell_90 rfl rfl rfl ?_
              refine zg_X1_199 (v := .ref (ad 23 j 0)) (pc' := 95) K (hW.c20 hj) rfl dX1_tell_92 rfl ?_
              refine zw_aload (v := .ref (ad 10 i 0)) (pc' := 97) K dX1_tell_95 rfl rfl rfl ?_
              refine zc_X1_82 (rest := []) (c' := 5) (n' := 88) (pc' := 102) K (ct_J2_add hl M (ad 23 j 0) (ztd σ j).length (ad 10 i 0) (hW.c23 hj) hlt (zlk_T hW hi) (zlk_l hW ht3)) (hW.c23 hj) rfl rfl dX1_tell_97 rfl (Nat.le_of_ble_eq_true rfl) ⟨Nat.le_of_ble_eq_true rfl, Nat.le_of_ble_eq_true rfl⟩ ⟨Nat.le_of_ble_eq_true rfl, Nat.le_of_ble_eq_true rfl, Nat.le_of_ble_eq_true rfl, Nat.le_of_ble_eq_true rfl⟩ (zw_ki fun r Ma h => ?_) zw_kn
              obtain ⟨hr, hM⟩ := h
              subst hr
              have hW1 : zW (zw_Xw X) Ma ad (zsett σ j (ztd σ j ++ [i])) μ th o := by rw [hM, zlu_app]; have z := hW.q23 (l := (ztd σ j ++ [i])) hj; rw [List.length_append] at z; exact z
              refine zw_pop (pc' := 103) K dX1_tell_102 rfl rfl ?_
              refine zw_aload (v := .ref (ad 20 j 0)) (pc' := 105) K dX1_tell_103 rfl rfl rfl ?_
              refine zg_X1_202 (v := .ref (ad 24 j 0)) (pc' := 108) K (hW1.c20 hj) rfl dX1_tell_105 rfl ?_
              refine zw_iload_n (x := (nI k)) (pc' := 109) K dX1_tell_108 rfl rfl ?_
              refine zw_dup2 (pc' := 110) K dX1_tell_109 rfl rfl rfl ?_
              refine zn_iald (j := k) (v := (zv σ 10 (zside σ j (nI k)))) (pc' := 111) K (hW1.c24 hj) rfl hk (zpr_side hk h3) dX1_tell_110 rfl ?_
              refine zw_iconst (v := 1) (pc' := 112) K dX1_tell_111 (by decide) rfl ?_
              refine zw_iadd (pc' := 113) K dX1_tell_112 rfl ?_
              refine zn_iast (j := k) (pc' := 114) K (hW1.c24 hj) rfl hk dX1_tell_113 rfl ?_
              refine zw_nmM (fun M1 eM1 => ?_)
              have hW2 : zW (zw_Xw X) M1 ad (zset (zsett σ j (ztd σ j ++ [i])) 10 (zside σ j (nI k)) (zv σ 10 (zside σ j (nI k)) + 1)) μ th o := by rw [eM1]; exact hW1.q24 (f := j) hj hk (hI.ne78 hj) h3
              refine zw_aload (v := .ref (ad 20 j 0)) (pc' := 116) K dX1_tell_114 rfl rfl rfl ?_
              refine zw_aload (v := .ref (ad 20 j 0)) (pc' := 118) K dX1_tell_116 rfl rfl rfl ?_
              refine zg_X1_205 (v := .int (zv (zset (zsett σ j (ztd σ j ++ [i])) 10 (zside σ j (nI k)) (zv σ 10 (zside σ j (nI k)) + 1)) 9 j)) (pc' := 121) K (hW2.c20 hj) rfl dX1_tell_118 rfl ?_
              refine zw_iconst (v := (-1)) (pc' := 122) K dX1_tell_121 (by decide) rfl ?_
              refine zw_icmp_ne (tgt := 129) (pc' := 125) K dX1_tell_122 (by decide) rfl (fun c122 => ?_) (fun c122 => ?_)
              · have c122 : ¬ zv σ 9 j = -1 := by simpa [zset_v, zsett_v] using c122
                refine zw_aload (v := .ref (ad 20 j 0)) (pc' := 131) K dX1_tell_129 rfl rfl rfl ?_
                refine zg_X1_205 (v := .int (zv (zset (zsett σ j (ztd σ j ++ [i])) 10 (zside σ j (nI k)) (zv σ 10 (zside σ j (nI k)) + 1)) 9 j)) (pc' := 134) K (hW2.c20 hj) rfl dX1_tell_131 rfl ?_
                refine zp_X1_205 (v := .int (zv (zset (zsett σ j (ztd σ j ++ [i])) 10 (zside σ j (nI k)) (zv σ 10 (zside σ j (nI k)) + 1)) 9 j)) (pc' := 137) K (hW2.c20 hj) rfl rfl (by simp) dX1_tell_134 rfl ?_
                refine zw_nmM (fun M3 eM3 => ?_)
                have hW4 : zW (zw_Xw X) M3 ad (zset (zset (zsett σ j (ztd σ j ++ [i])) 10 (zside σ j (nI k)) (zv σ 10 (zside σ j (nI k)) + 1)) 9 j (zv σ 9 j)) μ th o := by
                  have z := hW2.q20 (σ' := zset (zset (zsett σ j (ztd σ j ++ [i])) 10 (zside σ j (nI k)) (zv σ 10 (zside σ j (nI k)) + 1)) 9 j (zv σ 9 j)) hj rfl rfl (fun _ => rfl) (fun _ => rfl) (fun v i h9 h12 => by rw [zset_v, if_neg (fun q => h9 q.1)]) (fun v i hi => by rw [zset_v, if_neg (fun q => hi q.2)])
                  have e : zw_eC 4 [.ref (ad 21 j 0), .ref (ad 22 j 0), .ref (ad 23 j 0), .ref (ad 24 j 0), .ref (ad 25 j 0), .int (zv (zset (zsett σ j (ztd σ j ++ [i])) 10 (zside σ j (nI k)) (zv σ 10 (zside σ j (nI k)) + 1)) 9 j), .int (zv (zset (zsett σ j (ztd σ j ++ [i])) 10 (zside σ j (nI k)) (zv σ 10 (zside σ j (nI k)) + 1)) 12 j)] = zw_eC 4 [.ref (ad 21 j 0), .ref (ad 22 j 0), .ref (ad 23 j 0), .ref (ad 24 j 0), .ref (ad 25 j 0), .int (zv (zset (zset (zsett σ j (ztd σ j ++ [i])) 10 (zside σ j (nI k)) (zv σ 10 (zside σ j (nI k)) + 1)) 9 j (zv σ 9 j)) 9 j), .int (zv (zset (zset (zsett σ j (ztd σ j ++ [i])) 10 (zside σ j (nI k)) (zv σ 10 (zside σ j (nI k)) + 1)) 9 j (zv σ 9 j)) 12 j)] := by simp [zset_v, zsett_v]
                  rw [← e] at z; rw [eM3]; exact z
                refine zw_iload (x := 1) (pc' := 139) K dX1_tell_137 rfl rfl ?_
                exact zw_zret K hE rfl dX1_tell_139 ⟨Nat.le_of_ble_eq_true rfl, Nat.le_of_ble_eq_true rfl⟩ (zPo.mk (σ' := zset (zset (zsett σ j (ztd σ j ++ [i])) 10 (zside σ j (nI k)) (zv σ 10 (zside σ j (nI k)) + 1)) 9 j (zv σ 9 j)) (by rw [hres, show (decide (i ∈ zmt σ j) && !decide (i ∈ ztd σ j)) = true by rw [c60, c75]; rfl, if_pos rfl]; unfold ztold; rw [if_neg c122, zset_comm (by decide)]; rfl) hW4.x)
              · have c122 : zv σ 9 j = -1 := by simpa [zset_v, zsett_v] using c122
                refine zw_iload_n (x := (nI k)) (pc' := 126) K dX1_tell_125 rfl rfl ?_
                refine zw_goto (tgt := 134) K dX1_tell_126 (by decide) ?_
                refine zp_X1_205 (v := .int (nI k)) (pc' := 137) K (hW2.c20 hj) rfl rfl (by simp) dX1_tell_134 rfl ?_
                refine zw_nmM (fun M5 eM5 => ?_)
                have hW6 : zW (zw_Xw X) M5 ad (zset (zset (zsett σ j (ztd σ j ++ [i])) 10 (zside σ j (nI k)) (zv σ 10 (zside σ j (nI k)) + 1)) 9 j (nI k)) μ th o := by
                  have z := hW2.q20 (σ' := zset (zset (zsett σ j (ztd σ j ++ [i])) 10 (zside σ j (nI k)) (zv σ 10 (zside σ j (nI k)) + 1)) 9 j (nI k)) hj rfl rfl (fun _ => rfl) (fun _ => rfl) (fun v i h9 h12 => by rw [zset_v, if_neg (fun q => h9 q.1)]) (fun v i hi => by rw [zset_v, if_neg (fun q => hi q.2)])
                  have e : zw_eC 4 [.ref (ad 21 j 0), .ref (ad 22 j 0), .ref (ad 23 j 0), .ref (ad 24 j 0), .ref (ad 25 j 0), .int (nI k), .int (zv (zset (zsett σ j (ztd σ j ++ [i])) 10 (zside σ j (nI k)) (zv σ 10 (zside σ j (nI k)) + 1)) 12 j)] = zw_eC 4 [.ref (ad 21 j 0), .ref (ad 22 j 0), .ref (ad 23 j 0), .ref (ad 24 j 0), .ref (ad 25 j 0), .int (zv (zset (zset (zsett σ j (ztd σ j ++ [i])) 10 (zside σ j (nI k)) (zv σ 10 (zside σ j (nI k)) + 1)) 9 j (nI k)) 9 j), .int (zv (zset (zset (zsett σ j (ztd σ j ++ [i])) 10 (zside σ j (nI k)) (zv σ 10 (zside σ j (nI k)) + 1)) 9 j (nI k)) 12 j)] := by simp [zset_v, zsett_v]
                  rw [← e] at z; rw [eM5]; exact z
                refine zw_iload (x := 1) (pc' := 139) K dX1_tell_137 rfl rfl ?_
                exact zw_zret K hE rfl dX1_tell_139 ⟨Nat.le_of_ble_eq_true rfl, Nat.le_of_ble_eq_true rfl⟩ (zPo.mk (σ' := zset (zset (zsett σ j (ztd σ j ++ [i])) 10 (zside σ j (nI k)) (zv σ 10 (zside σ j (nI k)) + 1)) 9 j (nI k)) (by rw [hres, show (decide (i ∈ zmt σ j) && !decide (i ∈ ztd σ j)) = true by rw [c60, c75]; rfl, if_pos rfl]; unfold ztold; rw [if_pos c122, zset_comm (by decide)]; rfl) hW6.x)
      · obtain ⟨h0, h3, hM⟩ := h
        have hM := hM.symm
        subst h0; subst hM
        exact zw_out K hE htab ⟨Nat.le_of_ble_eq_true rfl, Nat.le_of_ble_eq_true rfl⟩ (zPx.mk 1 (c := 2) (ztell_x (by unfold ztellc; rw [if_neg (by simp [h1, h2])]; rw [zx_n (by have := hI.g; omega : j < 2 ^ 31), if_pos (show zof σ j b = false from h3)]) (by decide)) (by decide) rfl hW)
    · obtain ⟨h0, h2, hM⟩ := h
      have hM := hM.symm
      subst h0; subst hM
      exact zw_out K hE htab ⟨Nat.le_of_ble_eq_true rfl, Nat.le_of_ble_eq_true rfl⟩ (zPx.mk 0 (c := 1) (ztell_x (by unfold ztellc; rw [if_pos (by rw [h2, Bool.and_false])]) (by decide)) (by decide) rfl hW)
  · obtain ⟨h0, h1, hM⟩ := h
    have hM := hM.symm
    subst h0; subst hM
    exact zw_out K hE htab ⟨Nat.le_of_ble_eq_true rfl, Nat.le_of_ble_eq_true rfl⟩ (zPx.mk 0 (c := 1) (ztell_x (by unfold ztellc; rw [if_pos (by rw [h1, Bool.false_and])]) (by decide)) (by decide) rfl hW)
