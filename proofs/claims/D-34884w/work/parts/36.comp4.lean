/-! CartelWatch: winnerBefore, signOf, suspicionOf, suspicion, sign, worst -/
set_option maxRecDepth 100000
def zwbF (σ : zS) (a b k : Nat) (z : Int32) : Int32 := if (zv σ 0 k == 1 && (zst σ k a && zst σ k b)) = true then zv σ 1 k else z
def zwb (σ : zS) (t a b : Nat) : Int32 := zf (zwbF σ a b) t (-1)
theorem zst_s {σ : zS} {k a : Nat} : zs_st (fun b => zv σ 4 (7 * k + b)) (fun b => zv σ 5 (7 * k + b)) a = zst σ k a := rfl
theorem zwb_last (σ : zS) (a b : Nat) : ∀ t, t < 2 ^ 31 → (zlast σ t a b = -1 ∧ zwb σ t a b = -1) ∨ ∃ k, k < t ∧ zlast σ t a b = nI k ∧ zwb σ t a b = zv σ 1 k := by
  intro t
  induction t with
  | zero => intro _; exact Or.inl ⟨rfl, rfl⟩
  | succ t ih =>
    intro ht
    have e1 : zlast σ (t + 1) a b = zlastF σ a b t (zlast σ t a b) := rfl
    have e2 : zwb σ (t + 1) a b = zwbF σ a b t (zwb σ t a b) := rfl
    rw [e1, e2]
    unfold zlastF zwbF
    rw [Bool.and_assoc]
    by_cases h : (zv σ 0 t == 1 && (zst σ t a && zst σ t b)) = true
    · rw [if_pos h, if_pos h]; exact Or.inr ⟨t, by omega, rfl, rfl⟩
    · rw [if_neg h, if_neg h]
      rcases ih (by omega) with q | ⟨k, h1, h2⟩
      · exact Or.inl q
      · exact Or.inr ⟨k, by omega, h2⟩
theorem ztq_wb {σ : zS} {t a b q : Nat} (ht : t < 30) (hq : q < 7) : ztq σ t a b (nI q) = (zwb σ t a b == nI q) := by
  unfold ztq
  rcases zwb_last σ a b t (by omega) with ⟨h1, h2⟩ | ⟨k, hk, h1, h2⟩
  · rw [h1, h2]
    have : ((-1 : Int32) == nI q) = false := by simpa using fun z : (-1 : Int32) = nI q => zs_neg1 q (by omega) z.symm
    rw [this]; rfl
  · rw [h1, h2, zx_n (by omega)]
    have : (nI k == (-1 : Int32)) = false := by simpa using zs_neg1 k (by omega)
    rw [this]; rfl
theorem zlast_comm {σ : zS} {t a b : Nat} : zlast σ t a b = zlast σ t b a := by
  unfold zlast
  refine zf_congr (fun i _ z => ?_)
  unfold zlastF
  rw [Bool.and_assoc, Bool.and_assoc, Bool.and_comm (zst σ i a)]
theorem ztq_comm {σ : zS} {t a b : Nat} {c : Int32} : ztq σ t a b c = ztq σ t b a c := by unfold ztq; rw [zlast_comm]
/-- the sign of tender t as signOf adds it up: j won, q is the other -/
def zsc (σ : zS) (t a b j q : Nat) : Int32 :=
  (if zst σ t q = true then ((if !(zv σ 5 (7 * t + q) == 0) then 1 else 0) + (if 0 < zv σ 4 (7 * t + q) - zv σ 4 (7 * t + j) ∧ zv σ 4 (7 * t + q) - zv σ 4 (7 * t + j) ≤ 5 * zv σ 4 (7 * t + j) / 100 then 2 else 0)) + (if zwb σ t a b = nI q then 4 else 0)
   else (if !(zv σ 5 (7 * t + q) == 0) then 1 else 0)) + (if zv σ 2 t = nI q ∧ ¬ zv σ 4 (7 * t + q) = 0 then 3 else 0)
theorem zsc_sign {σ : zS} (hI : zI σ) {t a b j q : Nat} (ht : t < zn σ) (ha : a < 7) (hb : b < 7) (hab : a ≠ b) (hst : zv σ 0 t = 1) (hw : zv σ 1 t = nI j) (h : (j = a ∧ q = b) ∨ (j = b ∧ q = a)) : zsc σ t a b j q = zsign σ t (nI a) (nI b) := by
  have hn := hI.n
  have hj : j < 7 := by omega
  have hq : q < 7 := by omega
  have ne : nI a ≠ nI b := fun z => hab ((nI_eq (by omega) (by omega)).mp z)
  have hor : (zv σ 1 t == nI a || zv σ 1 t == nI b) = true := by
    rw [hw]; rcases h with ⟨rfl, -⟩ | ⟨rfl, -⟩ <;> simp
  have hot : (if zv σ 1 t = nI a then nI b else nI a) = nI q := by
    rw [hw]
    rcases h with ⟨rfl, rfl⟩ | ⟨rfl, rfl⟩
    · rw [if_pos rfl]
    · rw [if_neg (Ne.symm ne)]
  have hz : ztq σ t j q (nI q) = (zwb σ t a b == nI q) := by
    rcases h with ⟨rfl, rfl⟩ | ⟨rfl, rfl⟩
    · exact ztq_wb (by omega) hq
    · rw [ztq_comm]; exact ztq_wb (by omega) hq
  have hpr : zprice σ t = zv σ 4 (7 * t + j) := by unfold zprice; rw [hw, zx_n (by omega)]
  have hpos : (zv σ 4 (7 * t + q) = 0) ↔ ¬ 0 < zv σ 4 (7 * t + q) := by
    constructor
    · intro z; rw [z]; decide
    · intro z
      rcases Int32.lt_or_eq_of_le (hI.sm (7 * t + q)) with y | y
      · exact absurd y z
      · exact y.symm
  unfold zsign
  rw [if_neg (by rw [hst, hor]; decide), hot]
  unfold zsig zsc
  rw [hw, zx_n (by omega : q < 2 ^ 31), zx_n (by omega : j < 2 ^ 31), hz, hpr, Int32.mul_comm (zv σ 4 (7 * t + j)) 5]
  have hg : ∀ x y : Bool, ∀ p1 p2 : Prop, ∀ [Decidable p1] [Decidable p2], ∀ z : Bool, ∀ p3 : Prop, ∀ [Decidable p3],
      (if x = true then ((if y then (1 : Int32) else 0) + (if p1 ∧ p2 then 2 else 0)) + (if z = true then 4 else 0) else (if y then 1 else 0)) + (if p3 then 3 else 0)
      = (if (x && decide p1 && decide p2) = true then 2 else 0) + (if p3 then 3 else 0) + zb y + (if (x && z) = true then 4 else 0) := by
    intro x y p1 p2 _ _ z p3 _
    by_cases h1 : p1 <;> by_cases h2 : p2 <;> by_cases h3 : p3 <;> cases x <;> cases y <;> cases z <;> simp [h1, h2, h3, zb]
  have e := hg (zst σ t q) (!(zv σ 5 (7 * t + q) == 0)) (0 < zv σ 4 (7 * t + q) - zv σ 4 (7 * t + j)) (zv σ 4 (7 * t + q) - zv σ 4 (7 * t + j) ≤ 5 * zv σ 4 (7 * t + j) / 100) (zwb σ t a b == nI q) (zv σ 2 t = nI q ∧ ¬ zv σ 4 (7 * t + q) = 0)
  simp only [beq_iff_eq] at e
  simp only [Bool.and_eq_true, beq_iff_eq, decide_eq_true_eq, hpos, Classical.not_not] at e ⊢
  exact e
set_option maxHeartbeats 2000000 in
theorem ct_X1_winnerBefore {w : zw_W} {la : Launch} (hl : la.stackTraces = false) {M : zw_M} {ad : Nat → Nat → Nat → Nat} {σ μ : zS} {th : Int32} {o : Int64} (hW : zW w M ad σ μ th o) (hI : zI σ) (t : Nat) (ht : t < zn σ) {p a b : Nat} (ha : a < 7) (hb : b < 7) (hab : a ≠ b) (hP : M p = some (zw_eC 3 [.int (nI a), .int (nI b)])) : zw_C w la yX1_winnerBefore cX1_winnerBefore 6 (Option.some Jvm.ClassFile.FieldType.int) (zr 4 0 0) [.ref (ad 0 0 0), .int (nI t), .ref p] M (zw_pi fun r M1 => r = zwb σ t a b ∧ M1 = M) zw_no := by
  refine zw_enter RX1 rfl (by decide) hl (by simp [Value.category]) (Nat.le_of_ble_eq_true rfl) (fun X hXl hXw K hE htab hcon => ?_)
  subst hXl; subst hXw
  show zw_Z X _ 0 0 0 [some (.ref (ad 0 0 0)), some (.int (nI t)), some (.ref p), none, none, none] []
  refine zw_iconst (v := (-1)) (pc' := 1) K dX1_winnerBefore_0 (by decide) rfl ?_
  refine zw_istore_n (lv' := [some (.ref (ad 0 0 0)), some (.int (nI t)), some (.ref p), some (.int (-1)), none, none]) (pc' := 2) K dX1_winnerBefore_1 (by decide) rfl rfl ?_
  refine zw_iconst (v := 0) (pc' := 3) K dX1_winnerBefore_2 (by decide) rfl ?_
  refine zw_istore (lv' := [some (.ref (ad 0 0 0)), some (.int (nI t)), some (.ref p), some (.int (-1)), some (.int 0), none]) (pc' := 5) K dX1_winnerBefore_3 (by decide) rfl rfl ?_
  have L5 : ∀ k : Nat, k ≤ t → ∀ (xi : Int32) (acc : Int32), xi = nI k → (acc = zf (zwbF σ a b) k (-1)) → zw_Z X M 0 0 5 [some (.ref (ad 0 0 0)), some (.int (nI t)), some (.ref p), some (.int acc), some (.int xi), none] [] := by
    refine zl_up (fun k hi5 ih5 => ?_)
    intro xi acc hxi hacc
    refine zw_iload (x := xi) (pc' := 7) K dX1_winnerBefore_5 rfl rfl ?_
    refine zw_iload_n (x := nI t) (pc' := 8) K dX1_winnerBefore_7 rfl rfl ?_
    refine zw_icmp_ge (tgt := 61) (pc' := 11) K dX1_winnerBefore_8 (by decide) rfl (fun c8 => ?_) (fun c8 => ?_)
    · have hend5 : k = t := zi_ge hxi rfl hi5 (by have := hI.n; omega) c8
      refine zw_iload_n (x := acc) (pc' := 62) K dX1_winnerBefore_61 rfl rfl ?_
      exact zw_iret K hE dX1_winnerBefore_62 ⟨Nat.le_of_ble_eq_true rfl, Nat.le_of_ble_eq_true rfl⟩ (⟨by rw [hacc, hend5]; rfl, rfl⟩)
    · have hlt5 : k < t := zi_lt hxi rfl hi5 (by have := hI.n; omega) c8
      refine zw_aload_n (v := .ref (ad 0 0 0)) (pc' := 12) K dX1_winnerBefore_11 rfl rfl rfl ?_
      refine zg_X1_26 (v := .ref (ad 1 0 0)) (pc' := 15) K hW.c0 rfl dX1_winnerBefore_12 rfl ?_
      refine zw_iload (x := xi) (pc' := 17) K dX1_winnerBefore_15 rfl rfl ?_
      subst hxi
      have hk9 : k < zn σ := by omega
      refine zc_X1_7 (rest := []) (c' := 0) (n' := 0) (pc' := 22) K (ct_J2_get hl M (ad 1 0 0) k hW.c1 hk9) hW.c1 rfl rfl dX1_winnerBefore_17 rfl (Nat.le_of_ble_eq_true rfl) ⟨Nat.le_of_ble_eq_true rfl, Nat.le_of_ble_eq_true rfl⟩ ⟨Nat.le_of_ble_eq_true rfl, Nat.le_of_ble_eq_true rfl, Nat.le_of_ble_eq_true rfl, Nat.le_of_ble_eq_true rfl⟩ (zw_kpr ?_) zw_kn
      refine zw_cast (ci := 1) (pc' := 25) K rfl q156 (hW.c10 hk9) dX1_winnerBefore_22 rfl ?_
      refine zw_astore (lv' := [some (.ref (ad 0 0 0)), some (.int (nI t)), some (.ref p), some (.int acc), some (.int (nI k)), some (.ref (ad 10 k 0))]) (pc' := 27) K dX1_winnerBefore_25 rfl (by decide) rfl rfl ?_
      refine zw_aload (v := .ref (ad 10 k 0)) (pc' := 29) K dX1_winnerBefore_27 rfl rfl rfl ?_
      refine zg_X1_117 (v := .int (if zv σ 0 k = 1 then zv σ 1 k else -1)) (pc' := 32) K (hW.c10 hk9) rfl dX1_winnerBefore_29 rfl ?_
      refine zw_iconst (v := (-1)) (pc' := 33) K dX1_winnerBefore_32 (by decide) rfl ?_
      refine zw_icmp_eq (tgt := 53) (pc' := 36) K dX1_winnerBefore_33 (by decide) rfl (fun c33 => ?_) (fun c33 => ?_)
      · refine zw_iload_n (x := acc) (pc' := 54) K dX1_winnerBefore_53 rfl rfl ?_
        refine zw_istore_n (lv' := [some (.ref (ad 0 0 0)), some (.int (nI t)), some (.ref p), some (.int acc), some (.int (nI k)), some (.ref (ad 10 k 0))]) (pc' := 55) K dX1_winnerBefore_54 (by decide) rfl rfl ?_
        refine zw_iinc (x := (nI k)) (lv' := [some (.ref (ad 0 0 0)), some (.int (nI t)), some (.ref p), some (.int acc), some (.int ((nI k) + 1)), some (.ref (ad 10 k 0))]) (pc' := 58) K dX1_winnerBefore_55 rfl (by decide) rfl rfl ?_
        refine zw_goto (tgt := 5) K dX1_winnerBefore_58 (by decide) ?_
        refine zw_weakL (lv' := [some (.ref (ad 0 0 0)), some (.int (nI t)), some (.ref p), some (.int acc), some (.int ((nI k) + 1)), none]) (by simp [zw_le]) ?_
        exact ih5 hlt5 ((nI k) + 1) acc (nI_1 k) (by rw [zf_s, ← hacc]; unfold zwbF; rw [if_neg (by intro z; rw [Bool.and_eq_true] at z; rw [if_pos (eq_of_beq z.1)] at c33; rcases hI.wi hk9 (eq_of_beq z.1) with ⟨y, y1, y2, -⟩; rw [y2] at c33; exact zs_neg1 y (by omega) c33)])
      · refine zw_aload_n (v := .ref p) (pc' := 37) K dX1_winnerBefore_36 rfl rfl rfl ?_
        refine zw_aload (v := .ref (ad 10 k 0)) (pc' := 39) K dX1_winnerBefore_37 rfl rfl rfl ?_
        refine zc_X1_140 (rest := []) (c' := 0) (n' := 0) (pc' := 42) K (ct_X5_stands hl M (ad 10 k 0) (hW.tender hI.sm hk9) p a b ha hb hP) hP rfl rfl dX1_winnerBefore_39 rfl (Nat.le_of_ble_eq_true rfl) ⟨Nat.le_of_ble_eq_true rfl, Nat.le_of_ble_eq_true rfl⟩ ⟨Nat.le_of_ble_eq_true rfl, Nat.le_of_ble_eq_true rfl, Nat.le_of_ble_eq_true rfl, Nat.le_of_ble_eq_true rfl⟩ (zw_kp ?_) zw_kn
        refine zw_if_eq (tgt := 53) (pc' := 45) K dX1_winnerBefore_42 (by decide) rfl (fun c42 => ?_) (fun c42 => ?_)
        · have c42 := zb_0.mp c42
          refine zw_iload_n (x := acc) (pc' := 54) K dX1_winnerBefore_53 rfl rfl ?_
          refine zw_istore_n (lv' := [some (.ref (ad 0 0 0)), some (.int (nI t)), some (.ref p), some (.int acc), some (.int (nI k)), some (.ref (ad 10 k 0))]) (pc' := 55) K dX1_winnerBefore_54 (by decide) rfl rfl ?_
          refine zw_iinc (x := (nI k)) (lv' := [some (.ref (ad 0 0 0)), some (.int (nI t)), some (.ref p), some (.int acc), some (.int ((nI k) + 1)), some (.ref (ad 10 k 0))]) (pc' := 58) K dX1_winnerBefore_55 rfl (by decide) rfl rfl ?_
          refine zw_goto (tgt := 5) K dX1_winnerBefore_58 (by decide) ?_
          refine zw_weakL (lv' := [some (.ref (ad 0 0 0)), some (.int (nI t)), some (.ref p), some (.int acc), some (.int ((nI k) + 1)), none]) (by simp [zw_le]) ?_
          exact ih5 hlt5 ((nI k) + 1) acc (nI_1 k) (by have hs9 : zv σ 0 k = 1 := (by by_cases z : zv σ 0 k = 1; exact z; rw [if_neg z] at c33; exact absurd rfl c33); rw [zf_s, ← hacc]; unfold zwbF; rw [if_neg (by rw [hs9, show (zst σ k a && zst σ k b) = false from c42]; decide)])
        · have c42 := zb_nz.mp c42
          refine zw_aload (v := .ref (ad 10 k 0)) (pc' := 47) K dX1_winnerBefore_45 rfl rfl rfl ?_
          refine zg_X1_117 (v := .int (if zv σ 0 k = 1 then zv σ 1 k else -1)) (pc' := 50) K (hW.c10 hk9) rfl dX1_winnerBefore_47 rfl ?_
          refine zw_goto (tgt := 54) K dX1_winnerBefore_50 (by decide) ?_
          refine zw_istore_n (lv' := [some (.ref (ad 0 0 0)), some (.int (nI t)), some (.ref p), some (.int (if zv σ 0 k = 1 then zv σ 1 k else -1)), some (.int (nI k)), some (.ref (ad 10 k 0))]) (pc' := 55) K dX1_winnerBefore_54 (by decide) rfl rfl ?_
          refine zw_iinc (x := (nI k)) (lv' := [some (.ref (ad 0 0 0)), some (.int (nI t)), some (.ref p), some (.int (if zv σ 0 k = 1 then zv σ 1 k else -1)), some (.int ((nI k) + 1)), some (.ref (ad 10 k 0))]) (pc' := 58) K dX1_winnerBefore_55 rfl (by decide) rfl rfl ?_
          refine zw_goto (tgt := 5) K dX1_winnerBefore_58 (by decide) ?_
          refine zw_weakL (lv' := [some (.ref (ad 0 0 0)), some (.int (nI t)), some (.ref p), some (.int (if zv σ 0 k = 1 then zv σ 1 k else -1)), some (.int ((nI k) + 1)), none]) (by simp [zw_le]) ?_
          exact ih5 hlt5 ((nI k) + 1) (if zv σ 0 k = 1 then zv σ 1 k else -1) (nI_1 k) (by have hs9 : zv σ 0 k = 1 := (by by_cases z : zv σ 0 k = 1; exact z; rw [if_neg z] at c33; exact absurd rfl c33); rw [zf_s, ← hacc]; unfold zwbF; rw [if_pos hs9, if_pos (by rw [hs9, show (zst σ k a && zst σ k b) = true from c42]; decide)])
  exact L5 0 (Nat.zero_le _) 0 (-1) rfl rfl
set_option maxHeartbeats 2000000 in
theorem ct_X1_signOf {w : zw_W} {la : Launch} (hl : la.stackTraces = false) {M : zw_M} {ad : Nat → Nat → Nat → Nat} {σ μ : zS} {th : Int32} {o : Int64} (hW : zW w M ad σ μ th o) (hI : zI σ) (t : Nat) (ht : t < zn σ) {p a b : Nat} (ha : a < 7) (hb : b < 7) (hab : a ≠ b) (hP : M p = some (zw_eC 3 [.int (nI a), .int (nI b)])) : zw_C w la yX1_signOf cX1_signOf 7 (Option.some Jvm.ClassFile.FieldType.int) (zr 5 0 0) [.ref (ad 0 0 0), .int (nI t), .ref p] M (zw_pi fun r M1 => r = zsign σ t (nI a) (nI b) ∧ M1 = M) zw_no := by
  refine zw_enter RX1 rfl (by decide) hl (by simp [Value.category]) (Nat.le_of_ble_eq_true rfl) (fun X hXl hXw K hE htab hcon => ?_)
  subst hXl; subst hXw
  show zw_Z X _ 0 0 0 [some (.ref (ad 0 0 0)), some (.int (nI t)), some (.ref p), none, none, none, none] []
  have hZ := hW.tender hI.sm ht
  have hT9 := hW.c10 ht
  by_cases hst : zv σ 0 t = 1
  · rw [if_pos hst] at hZ hT9
    obtain ⟨j, hj, hwj, h0⟩ := hI.wi ht hst
    rw [hwj] at hZ hT9
    have hnj : ¬ nI j = -1 := zs_neg1 j (by omega)
    by_cases hh : (nI j == nI a || nI j == nI b) = true
    · obtain ⟨q, hq⟩ : ∃ q, (j = a ∧ q = b) ∨ (j = b ∧ q = a) := by
        rw [Bool.or_eq_true] at hh
        rcases hh with z | z
        · exact ⟨b, Or.inl ⟨(nI_eq (by omega) (by omega)).mp (eq_of_beq z), rfl⟩⟩
        · exact ⟨a, Or.inr ⟨(nI_eq (by omega) (by omega)).mp (eq_of_beq z), rfl⟩⟩
      have hq7 : q < 7 := by omega
      have ho : (if nI j = nI a then nI b else nI a) = nI q := by
        have ne : nI a ≠ nI b := fun z => hab ((nI_eq (by omega) (by omega)).mp z)
        rcases hq with ⟨rfl, rfl⟩ | ⟨rfl, rfl⟩
        · rw [if_pos rfl]
        · rw [if_neg (Ne.symm ne)]
      rw [← zsc_sign hI ht ha hb hab hst hwj hq] at hE
      by_cases hz : zv σ 4 (7 * t + q) = 0
      · have hs0 : zst σ t q = false := by unfold zst; rw [hz]; rfl
        have hw0 : zs_wd (fun b => zv σ 4 (7 * t + b)) (fun b => zv σ 5 (7 * t + b)) q = false := by unfold zs_wd; simp only [hz]; rfl
        have hg0 : zv σ 5 (7 * t + q) = 0 := by
          rcases hI.gs (7 * t + q) with z | ⟨-, z⟩
          · exact z
          · rw [hz] at z; exact absurd z (by decide)
        refine zw_aload_n (v := .ref (ad 0 0 0)) (pc' := 1) K dX1_signOf_0 rfl rfl rfl ?_
        refine zg_X1_26 (v := .ref (ad 1 0 0)) (pc' := 4) K hW.c0 rfl dX1_signOf_1 rfl ?_
        refine zw_iload_n (x := nI t) (pc' := 5) K dX1_signOf_4 rfl rfl ?_
        refine zc_X1_7 (rest := []) (c' := 0) (n' := 0) (pc' := 10) K (ct_J2_get hl M (ad 1 0 0) t hW.c1 ht) hW.c1 rfl rfl dX1_signOf_5 rfl (Nat.le_of_ble_eq_true rfl) ⟨Nat.le_of_ble_eq_true rfl, Nat.le_of_ble_eq_true rfl⟩ ⟨Nat.le_of_ble_eq_true rfl, Nat.le_of_ble_eq_true rfl, Nat.le_of_ble_eq_true rfl, Nat.le_of_ble_eq_true rfl⟩ (zw_kpr ?_) zw_kn
        refine zw_cast (ci := 1) (pc' := 13) K rfl q156 hT9 dX1_signOf_10 rfl ?_
        refine zw_astore_n (lv' := [some (.ref (ad 0 0 0)), some (.int (nI t)), some (.ref p), some (.ref (ad 10 t 0)), none, none, none]) (pc' := 14) K dX1_signOf_13 rfl (by decide) rfl rfl ?_
        refine zw_aload_n (v := .ref (ad 10 t 0)) (pc' := 15) K dX1_signOf_14 rfl rfl rfl ?_
        refine zg_X1_117 (v := .int (nI j)) (pc' := 18) K hT9 rfl dX1_signOf_15 rfl ?_
        refine zw_iconst (v := (-1)) (pc' := 19) K dX1_signOf_18 (by decide) rfl ?_
        refine zw_icmp_eq (tgt := 33) (pc' := 22) K dX1_signOf_19 (by decide) rfl (fun c19 => absurd c19 hnj) (fun c19 => ?_)
        refine zw_aload_n (v := .ref p) (pc' := 23) K dX1_signOf_22 rfl rfl rfl ?_
        refine zw_aload_n (v := .ref (ad 10 t 0)) (pc' := 24) K dX1_signOf_23 rfl rfl rfl ?_
        refine zg_X1_117 (v := .int (nI j)) (pc' := 27) K hT9 rfl dX1_signOf_24 rfl ?_
        refine zc_X1_143 (rest := []) (c' := 0) (n' := 0) (pc' := 30) K (ct_X5_has hl M p (nI a) (nI b) (nI j) hP) hP rfl rfl dX1_signOf_27 rfl (Nat.le_of_ble_eq_true rfl) ⟨Nat.le_of_ble_eq_true rfl, Nat.le_of_ble_eq_true rfl⟩ ⟨Nat.le_of_ble_eq_true rfl, Nat.le_of_ble_eq_true rfl, Nat.le_of_ble_eq_true rfl, Nat.le_of_ble_eq_true rfl⟩ (zw_kp ?_) zw_kn
        refine zw_if_ne (tgt := 35) (pc' := 33) K dX1_signOf_30 (by decide) rfl (fun c30 => ?_) (fun c30 => by exact absurd c30 (by rw [hh]; decide))
        refine zw_aload_n (v := .ref p) (pc' := 36) K dX1_signOf_35 rfl rfl rfl ?_
        refine zw_aload_n (v := .ref (ad 10 t 0)) (pc' := 37) K dX1_signOf_36 rfl rfl rfl ?_
        refine zg_X1_117 (v := .int (nI j)) (pc' := 40) K hT9 rfl dX1_signOf_37 rfl ?_
        refine zc_X1_146 (rest := []) (c' := 0) (n' := 0) (pc' := 43) K (ct_X5_other hl M p (nI a) (nI b) (nI j) hP) hP rfl rfl dX1_signOf_40 rfl (Nat.le_of_ble_eq_true rfl) ⟨Nat.le_of_ble_eq_true rfl, Nat.le_of_ble_eq_true rfl⟩ ⟨Nat.le_of_ble_eq_true rfl, Nat.le_of_ble_eq_true rfl, Nat.le_of_ble_eq_true rfl, Nat.le_of_ble_eq_true rfl⟩ (zw_kp ?_) zw_kn
        rw [ho]
        refine zw_istore (lv' := [some (.ref (ad 0 0 0)), some (.int (nI t)), some (.ref p), some (.ref (ad 10 t 0)), some (.int (nI q)), none, none]) (pc' := 45) K dX1_signOf_43 (by decide) rfl rfl ?_
        refine zw_aload_n (v := .ref (ad 10 t 0)) (pc' := 46) K dX1_signOf_45 rfl rfl rfl ?_
        refine zw_iload (x := nI q) (pc' := 48) K dX1_signOf_46 rfl rfl ?_
        refine zc_X1_149 (rest := []) (c' := 0) (n' := 0) (pc' := 51) K (ct_X3_hasWithdrawn hl M (ad 10 t 0) hZ q hq7) hT9 rfl rfl dX1_signOf_48 rfl (Nat.le_of_ble_eq_true rfl) ⟨Nat.le_of_ble_eq_true rfl, Nat.le_of_ble_eq_true rfl⟩ ⟨Nat.le_of_ble_eq_true rfl, Nat.le_of_ble_eq_true rfl, Nat.le_of_ble_eq_true rfl, Nat.le_of_ble_eq_true rfl⟩ (zw_kp ?_) zw_kn
        refine zw_if_eq (tgt := 58) (pc' := 54) K dX1_signOf_51 (by decide) rfl (fun c51 => ?_) (fun c51 => by exact absurd c51 (by rw [hw0]; decide))
        refine zw_iconst (v := 0) (pc' := 59) K dX1_signOf_58 (by decide) rfl ?_
        refine zw_istore (lv' := [some (.ref (ad 0 0 0)), some (.int (nI t)), some (.ref p), some (.ref (ad 10 t 0)), some (.int (nI q)), some (.int 0), none]) (pc' := 61) K dX1_signOf_59 (by decide) rfl rfl ?_
        refine zw_aload_n (v := .ref (ad 10 t 0)) (pc' := 62) K dX1_signOf_61 rfl rfl rfl ?_
        refine zw_iload (x := nI q) (pc' := 64) K dX1_signOf_62 rfl rfl ?_
        refine zc_X1_104 (rest := []) (c' := 0) (n' := 0) (pc' := 67) K (ct_X3_stands hl M (ad 10 t 0) hZ q hq7) hT9 rfl rfl dX1_signOf_64 rfl (Nat.le_of_ble_eq_true rfl) ⟨Nat.le_of_ble_eq_true rfl, Nat.le_of_ble_eq_true rfl⟩ ⟨Nat.le_of_ble_eq_true rfl, Nat.le_of_ble_eq_true rfl, Nat.le_of_ble_eq_true rfl, Nat.le_of_ble_eq_true rfl⟩ (zw_kp ?_) zw_kn
        refine zw_if_eq (tgt := 137) (pc' := 70) K dX1_signOf_67 (by decide) rfl (fun c67 => ?_) (fun c67 => by exact absurd (show zb (zst σ t q) = 0 by rw [hs0]; rfl) c67)
        refine zw_iload (x := 0) (pc' := 139) K dX1_signOf_137 rfl rfl ?_
        refine zw_aload_n (v := .ref (ad 10 t 0)) (pc' := 140) K dX1_signOf_139 rfl rfl rfl ?_
        refine zg_X1_120 (v := .int (zv σ 2 t)) (pc' := 143) K hT9 rfl dX1_signOf_140 rfl ?_
        refine zw_iload (x := nI q) (pc' := 145) K dX1_signOf_143 rfl rfl ?_
        refine zw_icmp_ne (tgt := 162) (pc' := 148) K dX1_signOf_145 (by decide) rfl (fun c145 => ?_) (fun c145 => ?_)
        · refine zw_iconst (v := 0) (pc' := 163) K dX1_signOf_162 (by decide) rfl ?_
          refine zw_iadd (pc' := 164) K dX1_signOf_163 rfl ?_
          exact zw_iret K hE dX1_signOf_164 ⟨Nat.le_of_ble_eq_true rfl, Nat.le_of_ble_eq_true rfl⟩ (⟨by unfold zsc; simp [c145, hz, hs0, hg0], rfl⟩)
        · refine zw_aload_n (v := .ref (ad 10 t 0)) (pc' := 149) K dX1_signOf_148 rfl rfl rfl ?_
          refine zg_X1_95 (v := .ref (ad 11 t 0)) (pc' := 152) K hT9 rfl dX1_signOf_149 rfl ?_
          refine zw_iload (x := nI q) (pc' := 154) K dX1_signOf_152 rfl rfl ?_
          refine zn_aaldB (j := q) (v := none) (pc' := 155) K (hW.c11 ht) rfl hq7 ((if_pos hq7).trans (if_pos hz)) dX1_signOf_154 rfl ?_
          refine zw_ifnull (r := none) (tgt := 162) (pc' := 158) K dX1_signOf_155 (by decide) rfl (fun _ => ?_) (fun _ h => nomatch h)
          refine zw_iconst (v := 0) (pc' := 163) K dX1_signOf_162 (by decide) rfl ?_
          refine zw_iadd (pc' := 164) K dX1_signOf_163 rfl ?_
          exact zw_iret K hE dX1_signOf_164 ⟨Nat.le_of_ble_eq_true rfl, Nat.le_of_ble_eq_true rfl⟩ (⟨by unfold zsc; simp [c145, hz, hs0, hg0], rfl⟩)
      · have hp : 0 < zv σ 4 (7 * t + q) := by
          rcases Int32.lt_or_eq_of_le (hI.sm (7 * t + q)) with z | z
          · exact z
          · exact absurd z.symm hz
        have hwd : zs_wd (fun b => zv σ 4 (7 * t + b)) (fun b => zv σ 5 (7 * t + b)) q = !(zv σ 5 (7 * t + q) == 0) := by unfold zs_wd; rw [decide_eq_true hp, Bool.true_and]
        refine zw_aload_n (v := .ref (ad 0 0 0)) (pc' := 1) K dX1_signOf_0 rfl rfl rfl ?_
        refine zg_X1_26 (v := .ref (ad 1 0 0)) (pc' := 4) K hW.c0 rfl dX1_signOf_1 rfl ?_
        refine zw_iload_n (x := nI t) (pc' := 5) K dX1_signOf_4 rfl rfl ?_
        refine zc_X1_7 (rest := []) (c' := 0) (n' := 0) (pc' := 10) K (ct_J2_get hl M (ad 1 0 0) t hW.c1 ht) hW.c1 rfl rfl dX1_signOf_5 rfl (Nat.le_of_ble_eq_true rfl) ⟨Nat.le_of_ble_eq_true rfl, Nat.le_of_ble_eq_true rfl⟩ ⟨Nat.le_of_ble_eq_true rfl, Nat.le_of_ble_eq_true rfl, Nat.le_of_ble_eq_true rfl, Nat.le_of_ble_eq_true rfl⟩ (zw_kpr ?_) zw_kn
        refine zw_cast (ci := 1) (pc' := 13) K rfl q156 hT9 dX1_signOf_10 rfl ?_
        refine zw_astore_n (lv' := [some (.ref (ad 0 0 0)), some (.int (nI t)), some (.ref p), some (.ref (ad 10 t 0)), none, none, none]) (pc' := 14) K dX1_signOf_13 rfl (by decide) rfl rfl ?_
        refine zw_aload_n (v := .ref (ad 10 t 0)) (pc' := 15) K dX1_signOf_14 rfl rfl rfl ?_
        refine zg_X1_117 (v := .int (nI j)) (pc' := 18) K hT9 rfl dX1_signOf_15 rfl ?_
        refine zw_iconst (v := (-1)) (pc' := 19) K dX1_signOf_18 (by decide) rfl ?_
        refine zw_icmp_eq (tgt := 33) (pc' := 22) K dX1_signOf_19 (by decide) rfl (fun c19 => absurd c19 hnj) (fun c19 => ?_)
        refine zw_aload_n (v := .ref p) (pc' := 23) K dX1_signOf_22 rfl rfl rfl ?_
        refine zw_aload_n (v := .ref (ad 10 t 0)) (pc' := 24) K dX1_signOf_23 rfl rfl rfl ?_
        refine zg_X1_117 (v := .int (nI j)) (pc' := 27) K hT9 rfl dX1_signOf_24 rfl ?_
        refine zc_X1_143 (rest := []) (c' := 0) (n' := 0) (pc' := 30) K (ct_X5_has hl M p (nI a) (nI b) (nI j) hP) hP rfl rfl dX1_signOf_27 rfl (Nat.le_of_ble_eq_true rfl) ⟨Nat.le_of_ble_eq_true rfl, Nat.le_of_ble_eq_true rfl⟩ ⟨Nat.le_of_ble_eq_true rfl, Nat.le_of_ble_eq_true rfl, Nat.le_of_ble_eq_true rfl, Nat.le_of_ble_eq_true rfl⟩ (zw_kp ?_) zw_kn
        refine zw_if_ne (tgt := 35) (pc' := 33) K dX1_signOf_30 (by decide) rfl (fun c30 => ?_) (fun c30 => by exact absurd c30 (by rw [hh]; decide))
        refine zw_aload_n (v := .ref p) (pc' := 36) K dX1_signOf_35 rfl rfl rfl ?_
        refine zw_aload_n (v := .ref (ad 10 t 0)) (pc' := 37) K dX1_signOf_36 rfl rfl rfl ?_
        refine zg_X1_117 (v := .int (nI j)) (pc' := 40) K hT9 rfl dX1_signOf_37 rfl ?_
        refine zc_X1_146 (rest := []) (c' := 0) (n' := 0) (pc' := 43) K (ct_X5_other hl M p (nI a) (nI b) (nI j) hP) hP rfl rfl dX1_signOf_40 rfl (Nat.le_of_ble_eq_true rfl) ⟨Nat.le_of_ble_eq_true rfl, Nat.le_of_ble_eq_true rfl⟩ ⟨Nat.le_of_ble_eq_true rfl, Nat.le_of_ble_eq_true rfl, Nat.le_of_ble_eq_true rfl, Nat.le_of_ble_eq_true rfl⟩ (zw_kp ?_) zw_kn
        rw [ho]
        refine zw_istore (lv' := [some (.ref (ad 0 0 0)), some (.int (nI t)), some (.ref p), some (.ref (ad 10 t 0)), some (.int (nI q)), none, none]) (pc' := 45) K dX1_signOf_43 (by decide) rfl rfl ?_
        refine zw_aload_n (v := .ref (ad 10 t 0)) (pc' := 46) K dX1_signOf_45 rfl rfl rfl ?_
        refine zw_iload (x := nI q) (pc' := 48) K dX1_signOf_46 rfl rfl ?_
        refine zc_X1_149 (rest := []) (c' := 0) (n' := 0) (pc' := 51) K (ct_X3_hasWithdrawn hl M (ad 10 t 0) hZ q hq7) hT9 rfl rfl dX1_signOf_48 rfl (Nat.le_of_ble_eq_true rfl) ⟨Nat.le_of_ble_eq_true rfl, Nat.le_of_ble_eq_true rfl⟩ ⟨Nat.le_of_ble_eq_true rfl, Nat.le_of_ble_eq_true rfl, Nat.le_of_ble_eq_true rfl, Nat.le_of_ble_eq_true rfl⟩ (zw_kp ?_) zw_kn
        refine zw_if_eq (tgt := 58) (pc' := 54) K dX1_signOf_51 (by decide) rfl (fun c51 => ?_) (fun c51 => ?_)
        · have c51 := zb_0.mp c51
          have hg51 : zv σ 5 (7 * t + q) = 0 := by rw [hwd] at c51; simpa using c51
          refine zw_iconst (v := 0) (pc' := 59) K dX1_signOf_58 (by decide) rfl ?_
          refine zw_istore (lv' := [some (.ref (ad 0 0 0)), some (.int (nI t)), some (.ref p), some (.ref (ad 10 t 0)), some (.int (nI q)), some (.int 0), none]) (pc' := 61) K dX1_signOf_59 (by decide) rfl rfl ?_
          refine zw_aload_n (v := .ref (ad 10 t 0)) (pc' := 62) K dX1_signOf_61 rfl rfl rfl ?_
          refine zw_iload (x := nI q) (pc' := 64) K dX1_signOf_62 rfl rfl ?_
          refine zc_X1_104 (rest := []) (c' := 0) (n' := 0) (pc' := 67) K (ct_X3_stands hl M (ad 10 t 0) hZ q hq7) hT9 rfl rfl dX1_signOf_64 rfl (Nat.le_of_ble_eq_true rfl) ⟨Nat.le_of_ble_eq_true rfl, Nat.le_of_ble_eq_true rfl⟩ ⟨Nat.le_of_ble_eq_true rfl, Nat.le_of_ble_eq_true rfl, Nat.le_of_ble_eq_true rfl, Nat.le_of_ble_eq_true rfl⟩ (zw_kp ?_) zw_kn
          refine zw_if_eq (tgt := 137) (pc' := 70) K dX1_signOf_67 (by decide) rfl (fun c67 => ?_) (fun c67 => ?_)
          · have c67 := zb_0.mp c67
            have c67 : zst σ t q = false := c67
            refine zw_iload (x := 0) (pc' := 139) K dX1_signOf_137 rfl rfl ?_
            refine zw_aload_n (v := .ref (ad 10 t 0)) (pc' := 140) K dX1_signOf_139 rfl rfl rfl ?_
            refine zg_X1_120 (v := .int (zv σ 2 t)) (pc' := 143) K hT9 rfl dX1_signOf_140 rfl ?_
            refine zw_iload (x := nI q) (pc' := 145) K dX1_signOf_143 rfl rfl ?_
            refine zw_icmp_ne (tgt := 162) (pc' := 148) K dX1_signOf_145 (by decide) rfl (fun c145 => ?_) (fun c145 => ?_)
            · refine zw_iconst (v := 0) (pc' := 163) K dX1_signOf_162 (by decide) rfl ?_
              refine zw_iadd (pc' := 164) K dX1_signOf_163 rfl ?_
              exact zw_iret K hE dX1_signOf_164 ⟨Nat.le_of_ble_eq_true rfl, Nat.le_of_ble_eq_true rfl⟩ (⟨by unfold zsc; simp [hg51, c67, c145, hz], rfl⟩)
            · refine zw_aload_n (v := .ref (ad 10 t 0)) (pc' := 149) K dX1_signOf_148 rfl rfl rfl ?_
              refine zg_X1_95 (v := .ref (ad 11 t 0)) (pc' := 152) K hT9 rfl dX1_signOf_149 rfl ?_
              refine zw_iload (x := nI q) (pc' := 154) K dX1_signOf_152 rfl rfl ?_
              refine zn_aaldB (j := q) (v := (some (ad 12 t q))) (pc' := 155) K (hW.c11 ht) rfl hq7 ((if_pos hq7).trans (if_neg hz)) dX1_signOf_154 rfl ?_
              refine zw_ifnull (r := some (ad 12 t q)) (tgt := 162) (pc' := 158) K dX1_signOf_155 (by decide) rfl (fun h => nomatch h) (fun _ _ => ?_)
              refine zw_iconst (v := 3) (pc' := 159) K dX1_signOf_158 (by decide) rfl ?_
              refine zw_goto (tgt := 163) K dX1_signOf_159 (by decide) ?_
              refine zw_iadd (pc' := 164) K dX1_signOf_163 rfl ?_
              exact zw_iret K hE dX1_signOf_164 ⟨Nat.le_of_ble_eq_true rfl, Nat.le_of_ble_eq_true rfl⟩ (⟨by unfold zsc; simp [hg51, c67, c145, hz], rfl⟩)
          · have c67 := zb_nz.mp c67
            have c67 : zst σ t q = true := c67
            refine zw_aload_n (v := .ref (ad 10 t 0)) (pc' := 71) K dX1_signOf_70 rfl rfl rfl ?_
            refine zg_X1_95 (v := .ref (ad 11 t 0)) (pc' := 74) K hT9 rfl dX1_signOf_71 rfl ?_
            refine zw_iload (x := nI q) (pc' := 76) K dX1_signOf_74 rfl rfl ?_
            refine zn_aaldB (j := q) (v := (some (ad 12 t q))) (pc' := 77) K (hW.c11 ht) rfl hq7 ((if_pos hq7).trans (if_neg hz)) dX1_signOf_76 rfl ?_
            refine zg_X1_111 (v := .int (zv σ 4 (7 * t + q))) (pc' := 80) K (hW.c12 ht hq7 hz) rfl dX1_signOf_77 rfl ?_
            refine zw_aload_n (v := .ref (ad 10 t 0)) (pc' := 81) K dX1_signOf_80 rfl rfl rfl ?_
            refine zc_X1_123 (rest := [.int (zv σ 4 (7 * t + q))]) (c' := 0) (n' := 0) (pc' := 84) K (ct_X3_sum hl M (ad 10 t 0) j hj hZ h0) hT9 rfl rfl dX1_signOf_81 rfl (Nat.le_of_ble_eq_true rfl) ⟨Nat.le_of_ble_eq_true rfl, Nat.le_of_ble_eq_true rfl⟩ ⟨Nat.le_of_ble_eq_true rfl, Nat.le_of_ble_eq_true rfl, Nat.le_of_ble_eq_true rfl, Nat.le_of_ble_eq_true rfl⟩ (zw_kp ?_) zw_kn
            refine zw_isub (pc' := 85) K dX1_signOf_84 rfl ?_
            refine zw_istore (lv' := [some (.ref (ad 0 0 0)), some (.int (nI t)), some (.ref p), some (.ref (ad 10 t 0)), some (.int (nI q)), some (.int 0), some (.int ((zv σ 4 (7 * t + q)) - (zv σ 4 (7 * t + j))))]) (pc' := 87) K dX1_signOf_85 (by decide) rfl rfl ?_
            refine zw_iload (x := 0) (pc' := 89) K dX1_signOf_87 rfl rfl ?_
            refine zw_iload (x := (zv σ 4 (7 * t + q)) - (zv σ 4 (7 * t + j))) (pc' := 91) K dX1_signOf_89 rfl rfl ?_
            refine zw_if_le (tgt := 112) (pc' := 94) K dX1_signOf_91 (by decide) rfl (fun c91 => ?_) (fun c91 => ?_)
            · refine zw_iconst (v := 0) (pc' := 113) K dX1_signOf_112 (by decide) rfl ?_
              refine zw_iadd (pc' := 114) K dX1_signOf_113 rfl ?_
              refine zw_istore (lv' := [some (.ref (ad 0 0 0)), some (.int (nI t)), some (.ref p), some (.ref (ad 10 t 0)), some (.int (nI q)), some (.int (0 + 0)), some (.int ((zv σ 4 (7 * t + q)) - (zv σ 4 (7 * t + j))))]) (pc' := 116) K dX1_signOf_114 (by decide) rfl rfl ?_
              refine zw_iload (x := 0 + 0) (pc' := 118) K dX1_signOf_116 rfl rfl ?_
              refine zw_aload_n (v := .ref (ad 0 0 0)) (pc' := 119) K dX1_signOf_118 rfl rfl rfl ?_
              refine zw_iload_n (x := nI t) (pc' := 120) K dX1_signOf_119 rfl rfl ?_
              refine zw_aload_n (v := .ref p) (pc' := 121) K dX1_signOf_120 rfl rfl rfl ?_
              refine zc_X1_152 (rest := [.int (0 + 0)]) (c' := 0) (n' := 0) (pc' := 124) K (ct_X1_winnerBefore hl hW hI t ht ha hb hab hP) hW.c0 rfl rfl dX1_signOf_121 rfl (Nat.le_of_ble_eq_true rfl) ⟨Nat.le_of_ble_eq_true rfl, Nat.le_of_ble_eq_true rfl⟩ ⟨Nat.le_of_ble_eq_true rfl, Nat.le_of_ble_eq_true rfl, Nat.le_of_ble_eq_true rfl, Nat.le_of_ble_eq_true rfl⟩ (zw_kp ?_) zw_kn
              refine zw_iload (x := nI q) (pc' := 126) K dX1_signOf_124 rfl rfl ?_
              refine zw_icmp_ne (tgt := 133) (pc' := 129) K dX1_signOf_126 (by decide) rfl (fun c126 => ?_) (fun c126 => ?_)
              · refine zw_iconst (v := 0) (pc' := 134) K dX1_signOf_133 (by decide) rfl ?_
                refine zw_iadd (pc' := 135) K dX1_signOf_134 rfl ?_
                refine zw_istore (lv' := [some (.ref (ad 0 0 0)), some (.int (nI t)), some (.ref p), some (.ref (ad 10 t 0)), some (.int (nI q)), some (.int ((0 + 0) + 0)), some (.int ((zv σ 4 (7 * t + q)) - (zv σ 4 (7 * t + j))))]) (pc' := 137) K dX1_signOf_135 (by decide) rfl rfl ?_
                refine zw_iload (x := (0 + 0) + 0) (pc' := 139) K dX1_signOf_137 rfl rfl ?_
                refine zw_aload_n (v := .ref (ad 10 t 0)) (pc' := 140) K dX1_signOf_139 rfl rfl rfl ?_
                refine zg_X1_120 (v := .int (zv σ 2 t)) (pc' := 143) K hT9 rfl dX1_signOf_140 rfl ?_
                refine zw_iload (x := nI q) (pc' := 145) K dX1_signOf_143 rfl rfl ?_
                refine zw_icmp_ne (tgt := 162) (pc' := 148) K dX1_signOf_145 (by decide) rfl (fun c145 => ?_) (fun c145 => ?_)
                · refine zw_iconst (v := 0) (pc' := 163) K dX1_signOf_162 (by decide) rfl ?_
                  refine zw_iadd (pc' := 164) K dX1_signOf_163 rfl ?_
                  exact zw_iret K hE dX1_signOf_164 ⟨Nat.le_of_ble_eq_true rfl, Nat.le_of_ble_eq_true rfl⟩ (⟨by unfold zsc; simp [hg51, c67, Int32.not_lt.mpr c91, c126, c145, hz], rfl⟩)
                · refine zw_aload_n (v := .ref (ad 10 t 0)) (pc' := 149) K dX1_signOf_148 rfl rfl rfl ?_
                  refine zg_X1_95 (v := .ref (ad 11 t 0)) (pc' := 152) K hT9 rfl dX1_signOf_149 rfl ?_
                  refine zw_iload (x := nI q) (pc' := 154) K dX1_signOf_152 rfl rfl ?_
                  refine zn_aaldB (j := q) (v := (some (ad 12 t q))) (pc' := 155) K (hW.c11 ht) rfl hq7 ((if_pos hq7).trans (if_neg hz)) dX1_signOf_154 rfl ?_
                  refine zw_ifnull (r := some (ad 12 t q)) (tgt := 162) (pc' := 158) K dX1_signOf_155 (by decide) rfl (fun h => nomatch h) (fun _ _ => ?_)
                  refine zw_iconst (v := 3) (pc' := 159) K dX1_signOf_158 (by decide) rfl ?_
                  refine zw_goto (tgt := 163) K dX1_signOf_159 (by decide) ?_
                  refine zw_iadd (pc' := 164) K dX1_signOf_163 rfl ?_
                  exact zw_iret K hE dX1_signOf_164 ⟨Nat.le_of_ble_eq_true rfl, Nat.le_of_ble_eq_true rfl⟩ (⟨by unfold zsc; simp [hg51, c67, Int32.not_lt.mpr c91, c126, c145, hz], rfl⟩)
              · refine zw_iconst (v := 4) (pc' := 130) K dX1_signOf_129 (by decide) rfl ?_
                refine zw_goto (tgt := 134) K dX1_signOf_130 (by decide) ?_
                refine zw_iadd (pc' := 135) K dX1_signOf_134 rfl ?_
                refine zw_istore (lv' := [some (.ref (ad 0 0 0)), some (.int (nI t)), some (.ref p), some (.ref (ad 10 t 0)), some (.int (nI q)), some (.int ((0 + 0) + 4)), some (.int ((zv σ 4 (7 * t + q)) - (zv σ 4 (7 * t + j))))]) (pc' := 137) K dX1_signOf_135 (by decide) rfl rfl ?_
                refine zw_iload (x := (0 + 0) + 4) (pc' := 139) K dX1_signOf_137 rfl rfl ?_
                refine zw_aload_n (v := .ref (ad 10 t 0)) (pc' := 140) K dX1_signOf_139 rfl rfl rfl ?_
                refine zg_X1_120 (v := .int (zv σ 2 t)) (pc' := 143) K hT9 rfl dX1_signOf_140 rfl ?_
                refine zw_iload (x := nI q) (pc' := 145) K dX1_signOf_143 rfl rfl ?_
                refine zw_icmp_ne (tgt := 162) (pc' := 148) K dX1_signOf_145 (by decide) rfl (fun c145 => ?_) (fun c145 => ?_)
                · refine zw_iconst (v := 0) (pc' := 163) K dX1_signOf_162 (by decide) rfl ?_
                  refine zw_iadd (pc' := 164) K dX1_signOf_163 rfl ?_
                  exact zw_iret K hE dX1_signOf_164 ⟨Nat.le_of_ble_eq_true rfl, Nat.le_of_ble_eq_true rfl⟩ (⟨by unfold zsc; simp [hg51, c67, Int32.not_lt.mpr c91, c126, c145, hz], rfl⟩)
                · refine zw_aload_n (v := .ref (ad 10 t 0)) (pc' := 149) K dX1_signOf_148 rfl rfl rfl ?_
                  refine zg_X1_95 (v := .ref (ad 11 t 0)) (pc' := 152) K hT9 rfl dX1_signOf_149 rfl ?_
                  refine zw_iload (x := nI q) (pc' := 154) K dX1_signOf_152 rfl rfl ?_
                  refine zn_aaldB (j := q) (v := (some (ad 12 t q))) (pc' := 155) K (hW.c11 ht) rfl hq7 ((if_pos hq7).trans (if_neg hz)) dX1_signOf_154 rfl ?_
                  refine zw_ifnull (r := some (ad 12 t q)) (tgt := 162) (pc' := 158) K dX1_signOf_155 (by decide) rfl (fun h => nomatch h) (fun _ _ => ?_)
                  refine zw_iconst (v := 3) (pc' := 159) K dX1_signOf_158 (by decide) rfl ?_
                  refine zw_goto (tgt := 163) K dX1_signOf_159 (by decide) ?_
                  refine zw_iadd (pc' := 164) K dX1_signOf_163 rfl ?_
                  exact zw_iret K hE dX1_signOf_164 ⟨Nat.le_of_ble_eq_true rfl, Nat.le_of_ble_eq_true rfl⟩ (⟨by unfold zsc; simp [hg51, c67, Int32.not_lt.mpr c91, c126, c145, hz], rfl⟩)
            · refine zw_iload (x := (zv σ 4 (7 * t + q)) - (zv σ 4 (7 * t + j))) (pc' := 96) K dX1_signOf_94 rfl rfl ?_
              refine zw_iconst (v := 5) (pc' := 97) K dX1_signOf_96 (by decide) rfl ?_
              refine zw_aload_n (v := .ref (ad 10 t 0)) (pc' := 98) K dX1_signOf_97 rfl rfl rfl ?_
              refine zc_X1_123 (rest := [.int 5, .int ((zv σ 4 (7 * t + q)) - (zv σ 4 (7 * t + j))), .int 0]) (c' := 0) (n' := 0) (pc' := 101) K (ct_X3_sum hl M (ad 10 t 0) j hj hZ h0) hT9 rfl rfl dX1_signOf_98 rfl (Nat.le_of_ble_eq_true rfl) ⟨Nat.le_of_ble_eq_true rfl, Nat.le_of_ble_eq_true rfl⟩ ⟨Nat.le_of_ble_eq_true rfl, Nat.le_of_ble_eq_true rfl, Nat.le_of_ble_eq_true rfl, Nat.le_of_ble_eq_true rfl⟩ (zw_kp ?_) zw_kn
              refine zw_imul (pc' := 102) K dX1_signOf_101 rfl ?_
              refine zw_bipush (v := 100) (pc' := 104) K dX1_signOf_102 (by decide) rfl ?_
              refine zw_idiv (pc' := 105) K dX1_signOf_104 (by decide) rfl ?_
              refine zw_icmp_gt (tgt := 112) (pc' := 108) K dX1_signOf_105 (by decide) rfl (fun c105 => ?_) (fun c105 => ?_)
              · refine zw_iconst (v := 0) (pc' := 113) K dX1_signOf_112 (by decide) rfl ?_
                refine zw_iadd (pc' := 114) K dX1_signOf_113 rfl ?_
                refine zw_istore (lv' := [some (.ref (ad 0 0 0)), some (.int (nI t)), some (.ref p), some (.ref (ad 10 t 0)), some (.int (nI q)), some (.int (0 + 0)), some (.int ((zv σ 4 (7 * t + q)) - (zv σ 4 (7 * t + j))))]) (pc' := 116) K dX1_signOf_114 (by decide) rfl rfl ?_
                refine zw_iload (x := 0 + 0) (pc' := 118) K dX1_signOf_116 rfl rfl ?_
                refine zw_aload_n (v := .ref (ad 0 0 0)) (pc' := 119) K dX1_signOf_118 rfl rfl rfl ?_
                refine zw_iload_n (x := nI t) (pc' := 120) K dX1_signOf_119 rfl rfl ?_
                refine zw_aload_n (v := .ref p) (pc' := 121) K dX1_signOf_120 rfl rfl rfl ?_
                refine zc_X1_152 (rest := [.int (0 + 0)]) (c' := 0) (n' := 0) (pc' := 124) K (ct_X1_winnerBefore hl hW hI t ht ha hb hab hP) hW.c0 rfl rfl dX1_signOf_121 rfl (Nat.le_of_ble_eq_true rfl) ⟨Nat.le_of_ble_eq_true rfl, Nat.le_of_ble_eq_true rfl⟩ ⟨Nat.le_of_ble_eq_true rfl, Nat.le_of_ble_eq_true rfl, Nat.le_of_ble_eq_true rfl, Nat.le_of_ble_eq_true rfl⟩ (zw_kp ?_) zw_kn
                refine zw_iload (x := nI q) (pc' := 126) K dX1_signOf_124 rfl rfl ?_
                refine zw_icmp_ne (tgt := 133) (pc' := 129) K dX1_signOf_126 (by decide) rfl (fun c126 => ?_) (fun c126 => ?_)
                · refine zw_iconst (v := 0) (pc' := 134) K dX1_signOf_133 (by decide) rfl ?_
                  refine zw_iadd (pc' := 135) K dX1_signOf_134 rfl ?_
                  refine zw_istore (lv' := [some (.ref (ad 0 0 0)), some (.int (nI t)), some (.ref p), some (.ref (ad 10 t 0)), some (.int (nI q)), some (.int ((0 + 0) + 0)), some (.int ((zv σ 4 (7 * t + q)) - (zv σ 4 (7 * t + j))))]) (pc' := 137) K dX1_signOf_135 (by decide) rfl rfl ?_
                  refine zw_iload (x := (0 + 0) + 0) (pc' := 139) K dX1_signOf_137 rfl rfl ?_
                  refine zw_aload_n (v := .ref (ad 10 t 0)) (pc' := 140) K dX1_signOf_139 rfl rfl rfl ?_
                  refine zg_X1_120 (v := .int (zv σ 2 t)) (pc' := 143) K hT9 rfl dX1_signOf_140 rfl ?_
                  refine zw_iload (x := nI q) (pc' := 145) K dX1_signOf_143 rfl rfl ?_
                  refine zw_icmp_ne (tgt := 162) (pc' := 148) K dX1_signOf_145 (by decide) rfl (fun c145 => ?_) (fun c145 => ?_)
                  · refine zw_iconst (v := 0) (pc' := 163) K dX1_signOf_162 (by decide) rfl ?_
                    refine zw_iadd (pc' := 164) K dX1_signOf_163 rfl ?_
                    exact zw_iret K hE dX1_signOf_164 ⟨Nat.le_of_ble_eq_true rfl, Nat.le_of_ble_eq_true rfl⟩ (⟨by unfold zsc; simp [hg51, c67, Int32.not_le.mp c91, Int32.not_le.mpr c105, c126, c145, hz], rfl⟩)
                  · refine zw_aload_n (v := .ref (ad 10 t 0)) (pc' := 149) K dX1_signOf_148 rfl rfl rfl ?_
                    refine zg_X1_95 (v := .ref (ad 11 t 0)) (pc' := 152) K hT9 rfl dX1_signOf_149 rfl ?_
                    refine zw_iload (x := nI q) (pc' := 154) K dX1_signOf_152 rfl rfl ?_
                    refine zn_aaldB (j := q) (v := (some (ad 12 t q))) (pc' := 155) K (hW.c11 ht) rfl hq7 ((if_pos hq7).trans (if_neg hz)) dX1_signOf_154 rfl ?_
                    refine zw_ifnull (r := some (ad 12 t q)) (tgt := 162) (pc' := 158) K dX1_signOf_155 (by decide) rfl (fun h => nomatch h) (fun _ _ => ?_)
                    refine zw_iconst (v := 3) (pc' := 159) K dX1_signOf_158 (by decide) rfl ?_
                    refine zw_goto (tgt := 163) K dX1_signOf_159 (by decide) ?_
                    refine zw_iadd (pc' := 164) K dX1_signOf_163 rfl ?_
                    exact zw_iret K hE dX1_signOf_164 ⟨Nat.le_of_ble_eq_true rfl, Nat.le_of_ble_eq_true rfl⟩ (⟨by unfold zsc; simp [hg51, c67, Int32.not_le.mp c91, Int32.not_le.mpr c105, c126, c145, hz], rfl⟩)
                · refine zw_iconst (v := 4) (pc' := 130) K dX1_signOf_129 (by decide) rfl ?_
                  refine zw_goto (tgt := 134) K dX1_signOf_130 (by decide) ?_
                  refine zw_iadd (pc' := 135) K dX1_signOf_134 rfl ?_
                  refine zw_istore (lv' := [some (.ref (ad 0 0 0)), some (.int (nI t)), some (.ref p), some (.ref (ad 10 t 0)), some (.int (nI q)), some (.int ((0 + 0) + 4)), some (.int ((zv σ 4 (7 * t + q)) - (zv σ 4 (7 * t + j))))]) (pc' := 137) K dX1_signOf_135 (by decide) rfl rfl ?_
                  refine zw_iload (x := (0 + 0) + 4) (pc' := 139) K dX1_signOf_137 rfl rfl ?_
                  refine zw_aload_n (v := .ref (ad 10 t 0)) (pc' := 140) K dX1_signOf_139 rfl rfl rfl ?_
                  refine zg_X1_120 (v := .int (zv σ 2 t)) (pc' := 143) K hT9 rfl dX1_signOf_140 rfl ?_
                  refine zw_iload (x := nI q) (pc' := 145) K dX1_signOf_143 rfl rfl ?_
                  refine zw_icmp_ne (tgt := 162) (pc' := 148) K dX1_signOf_145 (by decide) rfl (fun c145 => ?_) (fun c145 => ?_)
                  · refine zw_iconst (v := 0) (pc' := 163) K dX1_signOf_162 (by decide) rfl ?_
                    refine zw_iadd (pc' := 164) K dX1_signOf_163 rfl ?_
                    exact zw_iret K hE dX1_signOf_164 ⟨Nat.le_of_ble_eq_true rfl, Nat.le_of_ble_eq_true rfl⟩ (⟨by unfold zsc; simp [hg51, c67, Int32.not_le.mp c91, Int32.not_le.mpr c105, c126, c145, hz], rfl⟩)
                  · refine zw_aload_n (v := .ref (ad 10 t 0)) (pc' := 149) K dX1_signOf_148 rfl rfl rfl ?_
                    refine zg_X1_95 (v := .ref (ad 11 t 0)) (pc' := 152) K hT9 rfl dX1_signOf_149 rfl ?_
                    refine zw_iload (x := nI q) (pc' := 154) K dX1_signOf_152 rfl rfl ?_
                    refine zn_aaldB (j := q) (v := (some (ad 12 t q))) (pc' := 155) K (hW.c11 ht) rfl hq7 ((if_pos hq7).trans (if_neg hz)) dX1_signOf_154 rfl ?_
                    refine zw_ifnull (r := some (ad 12 t q)) (tgt := 162) (pc' := 158) K dX1_signOf_155 (by decide) rfl (fun h => nomatch h) (fun _ _ => ?_)
                    refine zw_iconst (v := 3) (pc' := 159) K dX1_signOf_158 (by decide) rfl ?_
                    refine zw_goto (tgt := 163) K dX1_signOf_159 (by decide) ?_
                    refine zw_iadd (pc' := 164) K dX1_signOf_163 rfl ?_
                    exact zw_iret K hE dX1_signOf_164 ⟨Nat.le_of_ble_eq_true rfl, Nat.le_of_ble_eq_true rfl⟩ (⟨by unfold zsc; simp [hg51, c67, Int32.not_le.mp c91, Int32.not_le.mpr c105, c126, c145, hz], rfl⟩)
              · refine zw_iconst (v := 2) (pc' := 109) K dX1_signOf_108 (by decide) rfl ?_
                refine zw_goto (tgt := 113) K dX1_signOf_109 (by decide) ?_
                refine zw_iadd (pc' := 114) K dX1_signOf_113 rfl ?_
                refine zw_istore (lv' := [some (.ref (ad 0 0 0)), some (.int (nI t)), some (.ref p), some (.ref (ad 10 t 0)), some (.int (nI q)), some (.int (0 + 2)), some (.int ((zv σ 4 (7 * t + q)) - (zv σ 4 (7 * t + j))))]) (pc' := 116) K dX1_signOf_114 (by decide) rfl rfl ?_
                refine zw_iload (x := 0 + 2) (pc' := 118) K dX1_signOf_116 rfl rfl ?_
                refine zw_aload_n (v := .ref (ad 0 0 0)) (pc' := 119) K dX1_signOf_118 rfl rfl rfl ?_
                refine zw_iload_n (x := nI t) (pc' := 120) K dX1_signOf_119 rfl rfl ?_
                refine zw_aload_n (v := .ref p) (pc' := 121) K dX1_signOf_120 rfl rfl rfl ?_
                refine zc_X1_152 (rest := [.int (0 + 2)]) (c' := 0) (n' := 0) (pc' := 124) K (ct_X1_winnerBefore hl hW hI t ht ha hb hab hP) hW.c0 rfl rfl dX1_signOf_121 rfl (Nat.le_of_ble_eq_true rfl) ⟨Nat.le_of_ble_eq_true rfl, Nat.le_of_ble_eq_true rfl⟩ ⟨Nat.le_of_ble_eq_true rfl, Nat.le_of_ble_eq_true rfl, Nat.le_of_ble_eq_true rfl, Nat.le_of_ble_eq_true rfl⟩ (zw_kp ?_) zw_kn
                refine zw_iload (x := nI q) (pc' := 126) K dX1_signOf_124 rfl rfl ?_
                refine zw_icmp_ne (tgt := 133) (pc' := 129) K dX1_signOf_126 (by decide) rfl (fun c126 => ?_) (fun c126 => ?_)
                · refine zw_iconst (v := 0) (pc' := 134) K dX1_signOf_133 (by decide) rfl ?_
                  refine zw_iadd (pc' := 135) K dX1_signOf_134 rfl ?_
                  refine zw_istore (lv' := [some (.ref (ad 0 0 0)), some (.int (nI t)), some (.ref p), some (.ref (ad 10 t 0)), some (.int (nI q)), some (.int ((0 + 2) + 0)), some (.int ((zv σ 4 (7 * t + q)) - (zv σ 4 (7 * t + j))))]) (pc' := 137) K dX1_signOf_135 (by decide) rfl rfl ?_
                  refine zw_iload (x := (0 + 2) + 0) (pc' := 139) K dX1_signOf_137 rfl rfl ?_
                  refine zw_aload_n (v := .ref (ad 10 t 0)) (pc' := 140) K dX1_signOf_139 rfl rfl rfl ?_
                  refine zg_X1_120 (v := .int (zv σ 2 t)) (pc' := 143) K hT9 rfl dX1_signOf_140 rfl ?_
                  refine zw_iload (x := nI q) (pc' := 145) K dX1_signOf_143 rfl rfl ?_
                  refine zw_icmp_ne (tgt := 162) (pc' := 148) K dX1_signOf_145 (by decide) rfl (fun c145 => ?_) (fun c145 => ?_)
                  · refine zw_iconst (v := 0) (pc' := 163) K dX1_signOf_162 (by decide) rfl ?_
                    refine zw_iadd (pc' := 164) K dX1_signOf_163 rfl ?_
                    exact zw_iret K hE dX1_signOf_164 ⟨Nat.le_of_ble_eq_true rfl, Nat.le_of_ble_eq_true rfl⟩ (⟨by unfold zsc; simp [hg51, c67, Int32.not_le.mp c91, Int32.not_lt.mp c105, c126, c145, hz], rfl⟩)
                  · refine zw_aload_n (v := .ref (ad 10 t 0)) (pc' := 149) K dX1_signOf_148 rfl rfl rfl ?_
                    refine zg_X1_95 (v := .ref (ad 11 t 0)) (pc' := 152) K hT9 rfl dX1_signOf_149 rfl ?_
                    refine zw_iload (x := nI q) (pc' := 154) K dX1_signOf_152 rfl rfl ?_
                    refine zn_aaldB (j := q) (v := (some (ad 12 t q))) (pc' := 155) K (hW.c11 ht) rfl hq7 ((if_pos hq7).trans (if_neg hz)) dX1_signOf_154 rfl ?_
                    refine zw_ifnull (r := some (ad 12 t q)) (tgt := 162) (pc' := 158) K dX1_signOf_155 (by decide) rfl (fun h => nomatch h) (fun _ _ => ?_)
                    refine zw_iconst (v := 3) (pc' := 159) K dX1_signOf_158 (by decide) rfl ?_
                    refine zw_goto (tgt := 163) K dX1_signOf_159 (by decide) ?_
                    refine zw_iadd (pc' := 164) K dX1_signOf_163 rfl ?_
                    exact zw_iret K hE dX1_signOf_164 ⟨Nat.le_of_ble_eq_true rfl, Nat.le_of_ble_eq_true rfl⟩ (⟨by unfold zsc; simp [hg51, c67, Int32.not_le.mp c91, Int32.not_lt.mp c105, c126, c145, hz], rfl⟩)
                · refine zw_iconst (v := 4) (pc' := 130) K dX1_signOf_129 (by decide) rfl ?_
                  refine zw_goto (tgt := 134) K dX1_signOf_130 (by decide) ?_
                  refine zw_iadd (pc' := 135) K dX1_signOf_134 rfl ?_
                  refine zw_istore (lv' := [some (.ref (ad 0 0 0)), some (.int (nI t)), some (.ref p), some (.ref (ad 10 t 0)), some (.int (nI q)), some (.int ((0 + 2) + 4)), some (.int ((zv σ 4 (7 * t + q)) - (zv σ 4 (7 * t + j))))]) (pc' := 137) K dX1_signOf_135 (by decide) rfl rfl ?_
                  refine zw_iload (x := (0 + 2) + 4) (pc' := 139) K dX1_signOf_137 rfl rfl ?_
                  refine zw_aload_n (v := .ref (ad 10 t 0)) (pc' := 140) K dX1_signOf_139 rfl rfl rfl ?_
                  refine zg_X1_120 (v := .int (zv σ 2 t)) (pc' := 143) K hT9 rfl dX1_signOf_140 rfl ?_
                  refine zw_iload (x := nI q) (pc' := 145) K dX1_signOf_143 rfl rfl ?_
                  refine zw_icmp_ne (tgt := 162) (pc' := 148) K dX1_signOf_145 (by decide) rfl (fun c145 => ?_) (fun c145 => ?_)
                  · refine zw_iconst (v := 0) (pc' := 163) K dX1_signOf_162 (by decide) rfl ?_
                    refine zw_iadd (pc' := 164) K dX1_signOf_163 rfl ?_
                    exact zw_iret K hE dX1_signOf_164 ⟨Nat.le_of_ble_eq_true rfl, Nat.le_of_ble_eq_true rfl⟩ (⟨by unfold zsc; simp [hg51, c67, Int32.not_le.mp c91, Int32.not_lt.mp c105, c126, c145, hz], rfl⟩)
                  · refine zw_aload_n (v := .ref (ad 10 t 0)) (pc' := 149) K dX1_signOf_148 rfl rfl rfl ?_
                    refine zg_X1_95 (v := .ref (ad 11 t 0)) (pc' := 152) K hT9 rfl dX1_signOf_149 rfl ?_
                    refine zw_iload (x := nI q) (pc' := 154) K dX1_signOf_152 rfl rfl ?_
                    refine zn_aaldB (j := q) (v := (some (ad 12 t q))) (pc' := 155) K (hW.c11 ht) rfl hq7 ((if_pos hq7).trans (if_neg hz)) dX1_signOf_154 rfl ?_
                    refine zw_ifnull (r := some (ad 12 t q)) (tgt := 162) (pc' := 158) K dX1_signOf_155 (by decide) rfl (fun h => nomatch h) (fun _ _ => ?_)
                    refine zw_iconst (v := 3) (pc' := 159) K dX1_signOf_158 (by decide) rfl ?_
                    refine zw_goto (tgt := 163) K dX1_signOf_159 (by decide) ?_
                    refine zw_iadd (pc' := 164) K dX1_signOf_163 rfl ?_
                    exact zw_iret K hE dX1_signOf_164 ⟨Nat.le_of_ble_eq_true rfl, Nat.le_of_ble_eq_true rfl⟩ (⟨by unfold zsc; simp [hg51, c67, Int32.not_le.mp c91, Int32.not_lt.mp c105, c126, c145, hz], rfl⟩)
        · have c51 := zb_nz.mp c51
          have hg51 : ¬ zv σ 5 (7 * t + q) = 0 := by rw [hwd] at c51; simpa using c51
          refine zw_iconst (v := 1) (pc' := 55) K dX1_signOf_54 (by decide) rfl ?_
          refine zw_goto (tgt := 59) K dX1_signOf_55 (by decide) ?_
          refine zw_istore (lv' := [some (.ref (ad 0 0 0)), some (.int (nI t)), some (.ref p), some (.ref (ad 10 t 0)), some (.int (nI q)), some (.int 1), none]) (pc' := 61) K dX1_signOf_59 (by decide) rfl rfl ?_
          refine zw_aload_n (v := .ref (ad 10 t 0)) (pc' := 62) K dX1_signOf_61 rfl rfl rfl ?_
          refine zw_iload (x := nI q) (pc' := 64) K dX1_signOf_62 rfl rfl ?_
          refine zc_X1_104 (rest := []) (c' := 0) (n' := 0) (pc' := 67) K (ct_X3_stands hl M (ad 10 t 0) hZ q hq7) hT9 rfl rfl dX1_signOf_64 rfl (Nat.le_of_ble_eq_true rfl) ⟨Nat.le_of_ble_eq_true rfl, Nat.le_of_ble_eq_true rfl⟩ ⟨Nat.le_of_ble_eq_true rfl, Nat.le_of_ble_eq_true rfl, Nat.le_of_ble_eq_true rfl, Nat.le_of_ble_eq_true rfl⟩ (zw_kp ?_) zw_kn
          refine zw_if_eq (tgt := 137) (pc' := 70) K dX1_signOf_67 (by decide) rfl (fun c67 => ?_) (fun c67 => ?_)
          · have c67 := zb_0.mp c67
            have c67 : zst σ t q = false := c67
            refine zw_iload (x := 1) (pc' := 139) K dX1_signOf_137 rfl rfl ?_
            refine zw_aload_n (v := .ref (ad 10 t 0)) (pc' := 140) K dX1_signOf_139 rfl rfl rfl ?_
            refine zg_X1_120 (v := .int (zv σ 2 t)) (pc' := 143) K hT9 rfl dX1_signOf_140 rfl ?_
            refine zw_iload (x := nI q) (pc' := 145) K dX1_signOf_143 rfl rfl ?_
            refine zw_icmp_ne (tgt := 162) (pc' := 148) K dX1_signOf_145 (by decide) rfl (fun c145 => ?_) (fun c145 => ?_)
            · refine zw_iconst (v := 0) (pc' := 163) K dX1_signOf_162 (by decide) rfl ?_
              refine zw_iadd (pc' := 164) K dX1_signOf_163 rfl ?_
              exact zw_iret K hE dX1_signOf_164 ⟨Nat.le_of_ble_eq_true rfl, Nat.le_of_ble_eq_true rfl⟩ (⟨by unfold zsc; simp [hg51, c67, c145, hz], rfl⟩)
            · refine zw_aload_n (v := .ref (ad 10 t 0)) (pc' := 149) K dX1_signOf_148 rfl rfl rfl ?_
              refine zg_X1_95 (v := .ref (ad 11 t 0)) (pc' := 152) K hT9 rfl dX1_signOf_149 rfl ?_
              refine zw_iload (x := nI q) (pc' := 154) K dX1_signOf_152 rfl rfl ?_
              refine zn_aaldB (j := q) (v := (some (ad 12 t q))) (pc' := 155) K (hW.c11 ht) rfl hq7 ((if_pos hq7).trans (if_neg hz)) dX1_signOf_154 rfl ?_
              refine zw_ifnull (r := some (ad 12 t q)) (tgt := 162) (pc' := 158) K dX1_signOf_155 (by decide) rfl (fun h => nomatch h) (fun _ _ => ?_)
              refine zw_iconst (v := 3) (pc' := 159) K dX1_signOf_158 (by decide) rfl ?_
              refine zw_goto (tgt := 163) K dX1_signOf_159 (by decide) ?_
              refine zw_iadd (pc' := 164) K dX1_signOf_163 rfl ?_
              exact zw_iret K hE dX1_signOf_164 ⟨Nat.le_of_ble_eq_true rfl, Nat.le_of_ble_eq_true rfl⟩ (⟨by unfold zsc; simp [hg51, c67, c145, hz], rfl⟩)
          · have c67 := zb_nz.mp c67
            have c67 : zst σ t q = true := c67
            refine zw_aload_n (v := .ref (ad 10 t 0)) (pc' := 71) K dX1_signOf_70 rfl rfl rfl ?_
            refine zg_X1_95 (v := .ref (ad 11 t 0)) (pc' := 74) K hT9 rfl dX1_signOf_71 rfl ?_
            refine zw_iload (x := nI q) (pc' := 76) K dX1_signOf_74 rfl rfl ?_
            refine zn_aaldB (j := q) (v := (some (ad 12 t q))) (pc' := 77) K (hW.c11 ht) rfl hq7 ((if_pos hq7).trans (if_neg hz)) dX1_signOf_76 rfl ?_
            refine zg_X1_111 (v := .int (zv σ 4 (7 * t + q))) (pc' := 80) K (hW.c12 ht hq7 hz) rfl dX1_signOf_77 rfl ?_
            refine zw_aload_n (v := .ref (ad 10 t 0)) (pc' := 81) K dX1_signOf_80 rfl rfl rfl ?_
            refine zc_X1_123 (rest := [.int (zv σ 4 (7 * t + q))]) (c' := 0) (n' := 0) (pc' := 84) K (ct_X3_sum hl M (ad 10 t 0) j hj hZ h0) hT9 rfl rfl dX1_signOf_81 rfl (Nat.le_of_ble_eq_true rfl) ⟨Nat.le_of_ble_eq_true rfl, Nat.le_of_ble_eq_true rfl⟩ ⟨Nat.le_of_ble_eq_true rfl, Nat.le_of_ble_eq_true rfl, Nat.le_of_ble_eq_true rfl, Nat.le_of_ble_eq_true rfl⟩ (zw_kp ?_) zw_kn
            refine zw_isub (pc' := 85) K dX1_signOf_84 rfl ?_
            refine zw_istore (lv' := [some (.ref (ad 0 0 0)), some (.int (nI t)), some (.ref p), some (.ref (ad 10 t 0)), some (.int (nI q)), some (.int 1), some (.int ((zv σ 4 (7 * t + q)) - (zv σ 4 (7 * t + j))))]) (pc' := 87) K dX1_signOf_85 (by decide) rfl rfl ?_
            refine zw_iload (x := 1) (pc' := 89) K dX1_signOf_87 rfl rfl ?_
            refine zw_iload (x := (zv σ 4 (7 * t + q)) - (zv σ 4 (7 * t + j))) (pc' := 91) K dX1_signOf_89 rfl rfl ?_
            refine zw_if_le (tgt := 112) (pc' := 94) K dX1_signOf_91 (by decide) rfl (fun c91 => ?_) (fun c91 => ?_)
            · refine zw_iconst (v := 0) (pc' := 113) K dX1_signOf_112 (by decide) rfl ?_
              refine zw_iadd (pc' := 114) K dX1_signOf_113 rfl ?_
              refine zw_istore (lv' := [some (.ref (ad 0 0 0)), some (.int (nI t)), some (.ref p), some (.ref (ad 10 t 0)), some (.int (nI q)), some (.int (1 + 0)), some (.int ((zv σ 4 (7 * t + q)) - (zv σ 4 (7 * t + j))))]) (pc' := 116) K dX1_signOf_114 (by decide) rfl rfl ?_
              refine zw_iload (x := 1 + 0) (pc' := 118) K dX1_signOf_116 rfl rfl ?_
              refine zw_aload_n (v := .ref (ad 0 0 0)) (pc' := 119) K dX1_signOf_118 rfl rfl rfl ?_
              refine zw_iload_n (x := nI t) (pc' := 120) K dX1_signOf_119 rfl rfl ?_
              refine zw_aload_n (v := .ref p) (pc' := 121) K dX1_signOf_120 rfl rfl rfl ?_
              refine zc_X1_152 (rest := [.int (1 + 0)]) (c' := 0) (n' := 0) (pc' := 124) K (ct_X1_winnerBefore hl hW hI t ht ha hb hab hP) hW.c0 rfl rfl dX1_signOf_121 rfl (Nat.le_of_ble_eq_true rfl) ⟨Nat.le_of_ble_eq_true rfl, Nat.le_of_ble_eq_true rfl⟩ ⟨Nat.le_of_ble_eq_true rfl, Nat.le_of_ble_eq_true rfl, Nat.le_of_ble_eq_true rfl, Nat.le_of_ble_eq_true rfl⟩ (zw_kp ?_) zw_kn
              refine zw_iload (x := nI q) (pc' := 126) K dX1_signOf_124 rfl rfl ?_
              refine zw_icmp_ne (tgt := 133) (pc' := 129) K dX1_signOf_126 (by decide) rfl (fun c126 => ?_) (fun c126 => ?_)
              · refine zw_iconst (v := 0) (pc' := 134) K dX1_signOf_133 (by decide) rfl ?_
                refine zw_iadd (pc' := 135) K dX1_signOf_134 rfl ?_
                refine zw_istore (lv' := [some (.ref (ad 0 0 0)), some (.int (nI t)), some (.ref p), some (.ref (ad 10 t 0)), some (.int (nI q)), some (.int ((1 + 0) + 0)), some (.int ((zv σ 4 (7 * t + q)) - (zv σ 4 (7 * t + j))))]) (pc' := 137) K dX1_signOf_135 (by decide) rfl rfl ?_
                refine zw_iload (x := (1 + 0) + 0) (pc' := 139) K dX1_signOf_137 rfl rfl ?_
                refine zw_aload_n (v := .ref (ad 10 t 0)) (pc' := 140) K dX1_signOf_139 rfl rfl rfl ?_
                refine zg_X1_120 (v := .int (zv σ 2 t)) (pc' := 143) K hT9 rfl dX1_signOf_140 rfl ?_
                refine zw_iload (x := nI q) (pc' := 145) K dX1_signOf_143 rfl rfl ?_
                refine zw_icmp_ne (tgt := 162) (pc' := 148) K dX1_signOf_145 (by decide) rfl (fun c145 => ?_) (fun c145 => ?_)
                · refine zw_iconst (v := 0) (pc' := 163) K dX1_signOf_162 (by decide) rfl ?_
                  refine zw_iadd (pc' := 164) K dX1_signOf_163 rfl ?_
                  exact zw_iret K hE dX1_signOf_164 ⟨Nat.le_of_ble_eq_true rfl, Nat.le_of_ble_eq_true rfl⟩ (⟨by unfold zsc; simp [hg51, c67, Int32.not_lt.mpr c91, c126, c145, hz], rfl⟩)
                · refine zw_aload_n (v := .ref (ad 10 t 0)) (pc' := 149) K dX1_signOf_148 rfl rfl rfl ?_
                  refine zg_X1_95 (v := .ref (ad 11 t 0)) (pc' := 152) K hT9 rfl dX1_signOf_149 rfl ?_
                  refine zw_iload (x := nI q) (pc' := 154) K dX1_signOf_152 rfl rfl ?_
                  refine zn_aaldB (j := q) (v := (some (ad 12 t q))) (pc' := 155) K (hW.c11 ht) rfl hq7 ((if_pos hq7).trans (if_neg hz)) dX1_signOf_154 rfl ?_
                  refine zw_ifnull (r := some (ad 12 t q)) (tgt := 162) (pc' := 158) K dX1_signOf_155 (by decide) rfl (fun h => nomatch h) (fun _ _ => ?_)
                  refine zw_iconst (v := 3) (pc' := 159) K dX1_signOf_158 (by decide) rfl ?_
                  refine zw_goto (tgt := 163) K dX1_signOf_159 (by decide) ?_
                  refine zw_iadd (pc' := 164) K dX1_signOf_163 rfl ?_
                  exact zw_iret K hE dX1_signOf_164 ⟨Nat.le_of_ble_eq_true rfl, Nat.le_of_ble_eq_true rfl⟩ (⟨by unfold zsc; simp [hg51, c67, Int32.not_lt.mpr c91, c126, c145, hz], rfl⟩)
              · refine zw_iconst (v := 4) (pc' := 130) K dX1_signOf_129 (by decide) rfl ?_
                refine zw_goto (tgt := 134) K dX1_signOf_130 (by decide) ?_
                refine zw_iadd (pc' := 135) K dX1_signOf_134 rfl ?_
                refine zw_istore (lv' := [some (.ref (ad 0 0 0)), some (.int (nI t)), some (.ref p), some (.ref (ad 10 t 0)), some (.int (nI q)), some (.int ((1 + 0) + 4)), some (.int ((zv σ 4 (7 * t + q)) - (zv σ 4 (7 * t + j))))]) (pc' := 137) K dX1_signOf_135 (by decide) rfl rfl ?_
                refine zw_iload (x := (1 + 0) + 4) (pc' := 139) K dX1_signOf_137 rfl rfl ?_
                refine zw_aload_n (v := .ref (ad 10 t 0)) (pc' := 140) K dX1_signOf_139 rfl rfl rfl ?_
                refine zg_X1_120 (v := .int (zv σ 2 t)) (pc' := 143) K hT9 rfl dX1_signOf_140 rfl ?_
                refine zw_iload (x := nI q) (pc' := 145) K dX1_signOf_143 rfl rfl ?_
                refine zw_icmp_ne (tgt := 162) (pc' := 148) K dX1_signOf_145 (by decide) rfl (fun c145 => ?_) (fun c145 => ?_)
                · refine zw_iconst (v := 0) (pc' := 163) K dX1_signOf_162 (by decide) rfl ?_
                  refine zw_iadd (pc' := 164) K dX1_signOf_163 rfl ?_
                  exact zw_iret K hE dX1_signOf_164 ⟨Nat.le_of_ble_eq_true rfl, Nat.le_of_ble_eq_true rfl⟩ (⟨by unfold zsc; simp [hg51, c67, Int32.not_lt.mpr c91, c126, c145, hz], rfl⟩)
                · refine zw_aload_n (v := .ref (ad 10 t 0)) (pc' := 149) K dX1_signOf_148 rfl rfl rfl ?_
                  refine zg_X1_95 (v := .ref (ad 11 t 0)) (pc' := 152) K hT9 rfl dX1_signOf_149 rfl ?_
                  refine zw_iload (x := nI q) (pc' := 154) K dX1_signOf_152 rfl rfl ?_
                  refine zn_aaldB (j := q) (v := (some (ad 12 t q))) (pc' := 155) K (hW.c11 ht) rfl hq7 ((if_pos hq7).trans (if_neg hz)) dX1_signOf_154 rfl ?_
                  refine zw_ifnull (r := some (ad 12 t q)) (tgt := 162) (pc' := 158) K dX1_signOf_155 (by decide) rfl (fun h => nomatch h) (fun _ _ => ?_)
                  refine zw_iconst (v := 3) (pc' := 159) K dX1_signOf_158 (by decide) rfl ?_
                  refine zw_goto (tgt := 163) K dX1_signOf_159 (by decide) ?_
                  refine zw_iadd (pc' := 164) K dX1_signOf_163 rfl ?_
                  exact zw_iret K hE dX1_signOf_164 ⟨Nat.le_of_ble_eq_true rfl, Nat.le_of_ble_eq_true rfl⟩ (⟨by unfold zsc; simp [hg51, c67, Int32.not_lt.mpr c91, c126, c145, hz], rfl⟩)
            · refine zw_iload (x := (zv σ 4 (7 * t + q)) - (zv σ 4 (7 * t + j))) (pc' := 96) K dX1_signOf_94 rfl rfl ?_
              refine zw_iconst (v := 5) (pc' := 97) K dX1_signOf_96 (by decide) rfl ?_
              refine zw_aload_n (v := .ref (ad 10 t 0)) (pc' := 98) K dX1_signOf_97 rfl rfl rfl ?_
              refine zc_X1_123 (rest := [.int 5, .int ((zv σ 4 (7 * t + q)) - (zv σ 4 (7 * t + j))), .int 1]) (c' := 0) (n' := 0) (pc' := 101) K (ct_X3_sum hl M (ad 10 t 0) j hj hZ h0) hT9 rfl rfl dX1_signOf_98 rfl (Nat.le_of_ble_eq_true rfl) ⟨Nat.le_of_ble_eq_true rfl, Nat.le_of_ble_eq_true rfl⟩ ⟨Nat.le_of_ble_eq_true rfl, Nat.le_of_ble_eq_true rfl, Nat.le_of_ble_eq_true rfl, Nat.le_of_ble_eq_true rfl⟩ (zw_kp ?_) zw_kn
              refine zw_imul (pc' := 102) K dX1_signOf_101 rfl ?_
              refine zw_bipush (v := 100) (pc' := 104) K dX1_signOf_102 (by decide) rfl ?_
              refine zw_idiv (pc' := 105) K dX1_signOf_104 (by decide) rfl ?_
              refine zw_icmp_gt (tgt := 112) (pc' := 108) K dX1_signOf_105 (by decide) rfl (fun c105 => ?_) (fun c105 => ?_)
              · refine zw_iconst (v := 0) (pc' := 113) K dX1_signOf_112 (by decide) rfl ?_
                refine zw_iadd (pc' := 114) K dX1_signOf_113 rfl ?_
                refine zw_istore (lv' := [some (.ref (ad 0 0 0)), some (.int (nI t)), some (.ref p), some (.ref (ad 10 t 0)), some (.int (nI q)), some (.int (1 + 0)), some (.int ((zv σ 4 (7 * t + q)) - (zv σ 4 (7 * t + j))))]) (pc' := 116) K dX1_signOf_114 (by decide) rfl rfl ?_
                refine zw_iload (x := 1 + 0) (pc' := 118) K dX1_signOf_116 rfl rfl ?_
                refine zw_aload_n (v := .ref (ad 0 0 0)) (pc' := 119) K dX1_signOf_118 rfl rfl rfl ?_
                refine zw_iload_n (x := nI t) (pc' := 120) K dX1_signOf_119 rfl rfl ?_
                refine zw_aload_n (v := .ref p) (pc' := 121) K dX1_signOf_120 rfl rfl rfl ?_
                refine zc_X1_152 (rest := [.int (1 + 0)]) (c' := 0) (n' := 0) (pc' := 124) K (ct_X1_winnerBefore hl hW hI t ht ha hb hab hP) hW.c0 rfl rfl dX1_signOf_121 rfl (Nat.le_of_ble_eq_true rfl) ⟨Nat.le_of_ble_eq_true rfl, Nat.le_of_ble_eq_true rfl⟩ ⟨Nat.le_of_ble_eq_true rfl, Nat.le_of_ble_eq_true rfl, Nat.le_of_ble_eq_true rfl, Nat.le_of_ble_eq_true rfl⟩ (zw_kp ?_) zw_kn
                refine zw_iload (x := nI q) (pc' := 126) K dX1_signOf_124 rfl rfl ?_
                refine zw_icmp_ne (tgt := 133) (pc' := 129) K dX1_signOf_126 (by decide) rfl (fun c126 => ?_) (fun c126 => ?_)
                · refine zw_iconst (v := 0) (pc' := 134) K dX1_signOf_133 (by decide) rfl ?_
                  refine zw_iadd (pc' := 135) K dX1_signOf_134 rfl ?_
                  refine zw_istore (lv' := [some (.ref (ad 0 0 0)), some (.int (nI t)), some (.ref p), some (.ref (ad 10 t 0)), some (.int (nI q)), some (.int ((1 + 0) + 0)), some (.int ((zv σ 4 (7 * t + q)) - (zv σ 4 (7 * t + j))))]) (pc' := 137) K dX1_signOf_135 (by decide) rfl rfl ?_
                  refine zw_iload (x := (1 + 0) + 0) (pc' := 139) K dX1_signOf_137 rfl rfl ?_
                  refine zw_aload_n (v := .ref (ad 10 t 0)) (pc' := 140) K dX1_signOf_139 rfl rfl rfl ?_
                  refine zg_X1_120 (v := .int (zv σ 2 t)) (pc' := 143) K hT9 rfl dX1_signOf_140 rfl ?_
                  refine zw_iload (x := nI q) (pc' := 145) K dX1_signOf_143 rfl rfl ?_
                  refine zw_icmp_ne (tgt := 162) (pc' := 148) K dX1_signOf_145 (by decide) rfl (fun c145 => ?_) (fun c145 => ?_)
                  · refine zw_iconst (v := 0) (pc' := 163) K dX1_signOf_162 (by decide) rfl ?_
                    refine zw_iadd (pc' := 164) K dX1_signOf_163 rfl ?_
                    exact zw_iret K hE dX1_signOf_164 ⟨Nat.le_of_ble_eq_true rfl, Nat.le_of_ble_eq_true rfl⟩ (⟨by unfold zsc; simp [hg51, c67, Int32.not_le.mp c91, Int32.not_le.mpr c105, c126, c145, hz], rfl⟩)
                  · refine zw_aload_n (v := .ref (ad 10 t 0)) (pc' := 149) K dX1_signOf_148 rfl rfl rfl ?_
                    refine zg_X1_95 (v := .ref (ad 11 t 0)) (pc' := 152) K hT9 rfl dX1_signOf_149 rfl ?_
                    refine zw_iload (x := nI q) (pc' := 154) K dX1_signOf_152 rfl rfl ?_
                    refine zn_aaldB (j := q) (v := (some (ad 12 t q))) (pc' := 155) K (hW.c11 ht) rfl hq7 ((if_pos hq7).trans (if_neg hz)) dX1_signOf_154 rfl ?_
                    refine zw_ifnull (r := some (ad 12 t q)) (tgt := 162) (pc' := 158) K dX1_signOf_155 (by decide) rfl (fun h => nomatch h) (fun _ _ => ?_)
                    refine zw_iconst (v := 3) (pc' := 159) K dX1_signOf_158 (by decide) rfl ?_
                    refine zw_goto (tgt := 163) K dX1_signOf_159 (by decide) ?_
                    refine zw_iadd (pc' := 164) K dX1_signOf_163 rfl ?_
                    exact zw_iret K hE dX1_signOf_164 ⟨Nat.le_of_ble_eq_true rfl, Nat.le_of_ble_eq_true rfl⟩ (⟨by unfold zsc; simp [hg51, c67, Int32.not_le.mp c91, Int32.not_le.mpr c105, c126, c145, hz], rfl⟩)
                · refine zw_iconst (v := 4) (pc' := 130) K dX1_signOf_129 (by decide) rfl ?_
                  refine zw_goto (tgt := 134) K dX1_signOf_130 (by decide) ?_
                  refine zw_iadd (pc' := 135) K dX1_signOf_134 rfl ?_
                  refine zw_istore (lv' := [some (.ref (ad 0 0 0)), some (.int (nI t)), some (.ref p), some (.ref (ad 10 t 0)), some (.int (nI q)), some (.int ((1 + 0) + 4)), some (.int ((zv σ 4 (7 * t + q)) - (zv σ 4 (7 * t + j))))]) (pc' := 137) K dX1_signOf_135 (by decide) rfl rfl ?_
                  refine zw_iload (x := (1 + 0) + 4) (pc' := 139) K dX1_signOf_137 rfl rfl ?_
                  refine zw_aload_n (v := .ref (ad 10 t 0)) (pc' := 140) K dX1_signOf_139 rfl rfl rfl ?_
                  refine zg_X1_120 (v := .int (zv σ 2 t)) (pc' := 143) K hT9 rfl dX1_signOf_140 rfl ?_
                  refine zw_iload (x := nI q) (pc' := 145) K dX1_signOf_143 rfl rfl ?_
                  refine zw_icmp_ne (tgt := 162) (pc' := 148) K dX1_signOf_145 (by decide) rfl (fun c145 => ?_) (fun c145 => ?_)
                  · refine zw_iconst (v := 0) (pc' := 163) K dX1_signOf_162 (by decide) rfl ?_
                    refine zw_iadd (pc' := 164) K dX1_signOf_163 rfl ?_
                    exact zw_iret K hE dX1_signOf_164 ⟨Nat.le_of_ble_eq_true rfl, Nat.le_of_ble_eq_true rfl⟩ (⟨by unfold zsc; simp [hg51, c67, Int32.not_le.mp c91, Int32.not_le.mpr c105, c126, c145, hz], rfl⟩)
                  · refine zw_aload_n (v := .ref (ad 10 t 0)) (pc' := 149) K dX1_signOf_148 rfl rfl rfl ?_
                    refine zg_X1_95 (v := .ref (ad 11 t 0)) (pc' := 152) K hT9 rfl dX1_signOf_149 rfl ?_
                    refine zw_iload (x := nI q) (pc' := 154) K dX1_signOf_152 rfl rfl ?_
                    refine zn_aaldB (j := q) (v := (some (ad 12 t q))) (pc' := 155) K (hW.c11 ht) rfl hq7 ((if_pos hq7).trans (if_neg hz)) dX1_signOf_154 rfl ?_
                    refine zw_ifnull (r := some (ad 12 t q)) (tgt := 162) (pc' := 158) K dX1_signOf_155 (by decide) rfl (fun h => nomatch h) (fun _ _ => ?_)
                    refine zw_iconst (v := 3) (pc' := 159) K dX1_signOf_158 (by decide) rfl ?_
                    refine zw_goto (tgt := 163) K dX1_signOf_159 (by decide) ?_
                    refine zw_iadd (pc' := 164) K dX1_signOf_163 rfl ?_
                    exact zw_iret K hE dX1_signOf_164 ⟨Nat.le_of_ble_eq_true rfl, Nat.le_of_ble_eq_true rfl⟩ (⟨by unfold zsc; simp [hg51, c67, Int32.not_le.mp c91, Int32.not_le.mpr c105, c126, c145, hz], rfl⟩)
              · refine zw_iconst (v := 2) (pc' := 109) K dX1_signOf_108 (by decide) rfl ?_
                refine zw_goto (tgt := 113) K dX1_signOf_109 (by decide) ?_
                refine zw_iadd (pc' := 114) K dX1_signOf_113 rfl ?_
                refine zw_istore (lv' := [some (.ref (ad 0 0 0)), some (.int (nI t)), some (.ref p), some (.ref (ad 10 t 0)), some (.int (nI q)), some (.int (1 + 2)), some (.int ((zv σ 4 (7 * t + q)) - (zv σ 4 (7 * t + j))))]) (pc' := 116) K dX1_signOf_114 (by decide) rfl rfl ?_
                refine zw_iload (x := 1 + 2) (pc' := 118) K dX1_signOf_116 rfl rfl ?_
                refine zw_aload_n (v := .ref (ad 0 0 0)) (pc' := 119) K dX1_signOf_118 rfl rfl rfl ?_
                refine zw_iload_n (x := nI t) (pc' := 120) K dX1_signOf_119 rfl rfl ?_
                refine zw_aload_n (v := .ref p) (pc' := 121) K dX1_signOf_120 rfl rfl rfl ?_
                refine zc_X1_152 (rest := [.int (1 + 2)]) (c' := 0) (n' := 0) (pc' := 124) K (ct_X1_winnerBefore hl hW hI t ht ha hb hab hP) hW.c0 rfl rfl dX1_signOf_121 rfl (Nat.le_of_ble_eq_true rfl) ⟨Nat.le_of_ble_eq_true rfl, Nat.le_of_ble_eq_true rfl⟩ ⟨Nat.le_of_ble_eq_true rfl, Nat.le_of_ble_eq_true rfl, Nat.le_of_ble_eq_true rfl, Nat.le_of_ble_eq_true rfl⟩ (zw_kp ?_) zw_kn
                refine zw_iload (x := nI q) (pc' := 126) K dX1_signOf_124 rfl rfl ?_
                refine zw_icmp_ne (tgt := 133) (pc' := 129) K dX1_signOf_126 (by decide) rfl (fun c126 => ?_) (fun c126 => ?_)
                · refine zw_iconst (v := 0) (pc' := 134) K dX1_signOf_133 (by decide) rfl ?_
                  refine zw_iadd (pc' := 135) K dX1_signOf_134 rfl ?_
                  refine zw_istore (lv' := [some (.ref (ad 0 0 0)), some (.int (nI t)), some (.ref p), some (.ref (ad 10 t 0)), some (.int (nI q)), some (.int ((1 + 2) + 0)), some (.int ((zv σ 4 (7 * t + q)) - (zv σ 4 (7 * t + j))))]) (pc' := 137) K dX1_signOf_135 (by decide) rfl rfl ?_
                  refine zw_iload (x := (1 + 2) + 0) (pc' := 139) K dX1_signOf_137 rfl rfl ?_
                  refine zw_aload_n (v := .ref (ad 10 t 0)) (pc' := 140) K dX1_signOf_139 rfl rfl rfl ?_
                  refine zg_X1_120 (v := .int (zv σ 2 t)) (pc' := 143) K hT9 rfl dX1_signOf_140 rfl ?_
                  refine zw_iload (x := nI q) (pc' := 145) K dX1_signOf_143 rfl rfl ?_
                  refine zw_icmp_ne (tgt := 162) (pc' := 148) K dX1_signOf_145 (by decide) rfl (fun c145 => ?_) (fun c145 => ?_)
                  · refine zw_iconst (v := 0) (pc' := 163) K dX1_signOf_162 (by decide) rfl ?_
                    refine zw_iadd (pc' := 164) K dX1_signOf_163 rfl ?_
                    exact zw_iret K hE dX1_signOf_164 ⟨Nat.le_of_ble_eq_true rfl, Nat.le_of_ble_eq_true rfl⟩ (⟨by unfold zsc; simp [hg51, c67, Int32.not_le.mp c91, Int32.not_lt.mp c105, c126, c145, hz], rfl⟩)
                  · refine zw_aload_n (v := .ref (ad 10 t 0)) (pc' := 149) K dX1_signOf_148 rfl rfl rfl ?_
                    refine zg_X1_95 (v := .ref (ad 11 t 0)) (pc' := 152) K hT9 rfl dX1_signOf_149 rfl ?_
                    refine zw_iload (x := nI q) (pc' := 154) K dX1_signOf_152 rfl rfl ?_
                    refine zn_aaldB (j := q) (v := (some (ad 12 t q))) (pc' := 155) K (hW.c11 ht) rfl hq7 ((if_pos hq7).trans (if_neg hz)) dX1_signOf_154 rfl ?_
                    refine zw_ifnull (r := some (ad 12 t q)) (tgt := 162) (pc' := 158) K dX1_signOf_155 (by decide) rfl (fun h => nomatch h) (fun _ _ => ?_)
                    refine zw_iconst (v := 3) (pc' := 159) K dX1_signOf_158 (by decide) rfl ?_
                    refine zw_goto (tgt := 163) K dX1_signOf_159 (by decide) ?_
                    refine zw_iadd (pc' := 164) K dX1_signOf_163 rfl ?_
                    exact zw_iret K hE dX1_signOf_164 ⟨Nat.le_of_ble_eq_true rfl, Nat.le_of_ble_eq_true rfl⟩ (⟨by unfold zsc; simp [hg51, c67, Int32.not_le.mp c91, Int32.not_lt.mp c105, c126, c145, hz], rfl⟩)
                · refine zw_iconst (v := 4) (pc' := 130) K dX1_signOf_129 (by decide) rfl ?_
                  refine zw_goto (tgt := 134) K dX1_signOf_130 (by decide) ?_
                  refine zw_iadd (pc' := 135) K dX1_signOf_134 rfl ?_
                  refine zw_istore (lv' := [some (.ref (ad 0 0 0)), some (.int (nI t)), some (.ref p), some (.ref (ad 10 t 0)), some (.int (nI q)), some (.int ((1 + 2) + 4)), some (.int ((zv σ 4 (7 * t + q)) - (zv σ 4 (7 * t + j))))]) (pc' := 137) K dX1_signOf_135 (by decide) rfl rfl ?_
                  refine zw_iload (x := (1 + 2) + 4) (pc' := 139) K dX1_signOf_137 rfl rfl ?_
                  refine zw_aload_n (v := .ref (ad 10 t 0)) (pc' := 140) K dX1_signOf_139 rfl rfl rfl ?_
                  refine zg_X1_120 (v := .int (zv σ 2 t)) (pc' := 143) K hT9 rfl dX1_signOf_140 rfl ?_
                  refine zw_iload (x := nI q) (pc' := 145) K dX1_signOf_143 rfl rfl ?_
                  refine zw_icmp_ne (tgt := 162) (pc' := 148) K dX1_signOf_145 (by decide) rfl (fun c145 => ?_) (fun c145 => ?_)
                  · refine zw_iconst (v := 0) (pc' := 163) K dX1_signOf_162 (by decide) rfl ?_
                    refine zw_iadd (pc' := 164) K dX1_signOf_163 rfl ?_
                    exact zw_iret K hE dX1_signOf_164 ⟨Nat.le_of_ble_eq_true rfl, Nat.le_of_ble_eq_true rfl⟩ (⟨by unfold zsc; simp [hg51, c67, Int32.not_le.mp c91, Int32.not_lt.mp c105, c126, c145, hz], rfl⟩)
                  · refine zw_aload_n (v := .ref (ad 10 t 0)) (pc' := 149) K dX1_signOf_148 rfl rfl rfl ?_
                    refine zg_X1_95 (v := .ref (ad 11 t 0)) (pc' := 152) K hT9 rfl dX1_signOf_149 rfl ?_
                    refine zw_iload (x := nI q) (pc' := 154) K dX1_signOf_152 rfl rfl ?_
                    refine zn_aaldB (j := q) (v := (some (ad 12 t q))) (pc' := 155) K (hW.c11 ht) rfl hq7 ((if_pos hq7).trans (if_neg hz)) dX1_signOf_154 rfl ?_
                    refine zw_ifnull (r := some (ad 12 t q)) (tgt := 162) (pc' := 158) K dX1_signOf_155 (by decide) rfl (fun h => nomatch h) (fun _ _ => ?_)
                    refine zw_iconst (v := 3) (pc' := 159) K dX1_signOf_158 (by decide) rfl ?_
                    refine zw_goto (tgt := 163) K dX1_signOf_159 (by decide) ?_
                    refine zw_iadd (pc' := 164) K dX1_signOf_163 rfl ?_
                    exact zw_iret K hE dX1_signOf_164 ⟨Nat.le_of_ble_eq_true rfl, Nat.le_of_ble_eq_true rfl⟩ (⟨by unfold zsc; simp [hg51, c67, Int32.not_le.mp c91, Int32.not_lt.mp c105, c126, c145, hz], rfl⟩)
    · have hs9 : zsign σ t (nI a) (nI b) = 0 := by unfold zsign; rw [if_pos (by rw [hwj, show (nI j == nI a || nI j == nI b) = false by simpa using hh, Bool.and_false])]
      rw [hs9] at hE
      refine zw_aload_n (v := .ref (ad 0 0 0)) (pc' := 1) K dX1_signOf_0 rfl rfl rfl ?_
      refine zg_X1_26 (v := .ref (ad 1 0 0)) (pc' := 4) K hW.c0 rfl dX1_signOf_1 rfl ?_
      refine zw_iload_n (x := nI t) (pc' := 5) K dX1_signOf_4 rfl rfl ?_
      refine zc_X1_7 (rest := []) (c' := 0) (n' := 0) (pc' := 10) K (ct_J2_get hl M (ad 1 0 0) t hW.c1 ht) hW.c1 rfl rfl dX1_signOf_5 rfl (Nat.le_of_ble_eq_true rfl) ⟨Nat.le_of_ble_eq_true rfl, Nat.le_of_ble_eq_true rfl⟩ ⟨Nat.le_of_ble_eq_true rfl, Nat.le_of_ble_eq_true rfl, Nat.le_of_ble_eq_true rfl, Nat.le_of_ble_eq_true rfl⟩ (zw_kpr ?_) zw_kn
      refine zw_cast (ci := 1) (pc' := 13) K rfl q156 hT9 dX1_signOf_10 rfl ?_
      refine zw_astore_n (lv' := [some (.ref (ad 0 0 0)), some (.int (nI t)), some (.ref p), some (.ref (ad 10 t 0)), none, none, none]) (pc' := 14) K dX1_signOf_13 rfl (by decide) rfl rfl ?_
      refine zw_aload_n (v := .ref (ad 10 t 0)) (pc' := 15) K dX1_signOf_14 rfl rfl rfl ?_
      refine zg_X1_117 (v := .int (nI j)) (pc' := 18) K hT9 rfl dX1_signOf_15 rfl ?_
      refine zw_iconst (v := (-1)) (pc' := 19) K dX1_signOf_18 (by decide) rfl ?_
      refine zw_icmp_eq (tgt := 33) (pc' := 22) K dX1_signOf_19 (by decide) rfl (fun c19 => absurd c19 hnj) (fun c19 => ?_)
      refine zw_aload_n (v := .ref p) (pc' := 23) K dX1_signOf_22 rfl rfl rfl ?_
      refine zw_aload_n (v := .ref (ad 10 t 0)) (pc' := 24) K dX1_signOf_23 rfl rfl rfl ?_
      refine zg_X1_117 (v := .int (nI j)) (pc' := 27) K hT9 rfl dX1_signOf_24 rfl ?_
      refine zc_X1_143 (rest := []) (c' := 0) (n' := 0) (pc' := 30) K (ct_X5_has hl M p (nI a) (nI b) (nI j) hP) hP rfl rfl dX1_signOf_27 rfl (Nat.le_of_ble_eq_true rfl) ⟨Nat.le_of_ble_eq_true rfl, Nat.le_of_ble_eq_true rfl⟩ ⟨Nat.le_of_ble_eq_true rfl, Nat.le_of_ble_eq_true rfl, Nat.le_of_ble_eq_true rfl, Nat.le_of_ble_eq_true rfl⟩ (zw_kp ?_) zw_kn
      refine zw_if_ne (tgt := 35) (pc' := 33) K dX1_signOf_30 (by decide) rfl (fun c30 => by exact absurd (zb_nz.mp c30) hh) (fun c30 => ?_)
      refine zw_iconst (v := 0) (pc' := 34) K dX1_signOf_33 (by decide) rfl ?_
      exact zw_iret K hE dX1_signOf_34 ⟨Nat.le_of_ble_eq_true rfl, Nat.le_of_ble_eq_true rfl⟩ (⟨rfl, rfl⟩)
  · rw [if_neg hst] at hZ hT9
    have hs9 : zsign σ t (nI a) (nI b) = 0 := by unfold zsign; rw [if_pos (by rw [show (zv σ 0 t == 1) = false by simpa using hst, Bool.false_and])]
    rw [hs9] at hE
    refine zw_aload_n (v := .ref (ad 0 0 0)) (pc' := 1) K dX1_signOf_0 rfl rfl rfl ?_
    refine zg_X1_26 (v := .ref (ad 1 0 0)) (pc' := 4) K hW.c0 rfl dX1_signOf_1 rfl ?_
    refine zw_iload_n (x := nI t) (pc' := 5) K dX1_signOf_4 rfl rfl ?_
    refine zc_X1_7 (rest := []) (c' := 0) (n' := 0) (pc' := 10) K (ct_J2_get hl M (ad 1 0 0) t hW.c1 ht) hW.c1 rfl rfl dX1_signOf_5 rfl (Nat.le_of_ble_eq_true rfl) ⟨Nat.le_of_ble_eq_true rfl, Nat.le_of_ble_eq_true rfl⟩ ⟨Nat.le_of_ble_eq_true rfl, Nat.le_of_ble_eq_true rfl, Nat.le_of_ble_eq_true rfl, Nat.le_of_ble_eq_true rfl⟩ (zw_kpr ?_) zw_kn
    refine zw_cast (ci := 1) (pc' := 13) K rfl q156 hT9 dX1_signOf_10 rfl ?_
    refine zw_astore_n (lv' := [some (.ref (ad 0 0 0)), some (.int (nI t)), some (.ref p), some (.ref (ad 10 t 0)), none, none, none]) (pc' := 14) K dX1_signOf_13 rfl (by decide) rfl rfl ?_
    refine zw_aload_n (v := .ref (ad 10 t 0)) (pc' := 15) K dX1_signOf_14 rfl rfl rfl ?_
    refine zg_X1_117 (v := .int (-1)) (pc' := 18) K hT9 rfl dX1_signOf_15 rfl ?_
    refine zw_iconst (v := (-1)) (pc' := 19) K dX1_signOf_18 (by decide) rfl ?_
    refine zw_icmp_eq (tgt := 33) (pc' := 22) K dX1_signOf_19 (by decide) rfl (fun c19 => ?_) (fun c19 => by exact absurd rfl c19)
    refine zw_iconst (v := 0) (pc' := 34) K dX1_signOf_33 (by decide) rfl ?_
    exact zw_iret K hE dX1_signOf_34 ⟨Nat.le_of_ble_eq_true rfl, Nat.le_of_ble_eq_true rfl⟩ (⟨rfl, rfl⟩)
