/-! CartelWatch: worst -/
set_option maxRecDepth 100000
set_option maxHeartbeats 2000000 in
theorem ct_X1_worst {w : zw_W} {la : Launch} (hl : la.stackTraces = false) {M : zw_M} {ad : Nat → Nat → Nat → Nat} {σ μ : zS} {th : Int32} {o : Int64} (hW : zW w M ad σ μ th o) (hI : zI σ) : zw_C w la yX1_worst cX1_worst 6 (Option.some Jvm.ClassFile.FieldType.int) (zr 8 49 98) [.ref (ad 0 0 0)] M (zw_pi (zPo w ad μ th o (zworst σ, 0, σ))) zw_no := by
  refine zw_enter RX1 rfl (by decide) hl (by simp [Value.category]) (Nat.le_of_ble_eq_true rfl) (fun X hXl hXw K hE htab hcon => ?_)
  subst hXl; subst hXw
  show zw_Z X _ 0 0 0 [some (.ref (ad 0 0 0)), none, none, none, none, none] []
  refine zw_iconst (v := (-1)) (pc' := 1) K dX1_worst_0 (by decide) rfl ?_
  refine zw_istore_n (lv' := [some (.ref (ad 0 0 0)), some (.int (-1)), none, none, none, none]) (pc' := 2) K dX1_worst_1 (by decide) rfl rfl ?_
  refine zw_iconst (v := 0) (pc' := 3) K dX1_worst_2 (by decide) rfl ?_
  refine zw_istore_n (lv' := [some (.ref (ad 0 0 0)), some (.int (-1)), some (.int 0), none, none, none]) (pc' := 4) K dX1_worst_3 (by decide) rfl rfl ?_
  refine zw_iconst (v := 0) (pc' := 5) K dX1_worst_4 (by decide) rfl ?_
  refine zw_istore_n (lv' := [some (.ref (ad 0 0 0)), some (.int (-1)), some (.int 0), some (.int 0), none, none]) (pc' := 6) K dX1_worst_5 (by decide) rfl rfl ?_
  have L6 : ∀ a : Nat, a ≤ 7 → ∀ (xa : Int32) (M9 : zw_M) (w0 : Int32) (m0 : Int32), xa = nI a → (zW (zw_Xw X) M9 ad σ μ th o) → ((w0, m0) = zf (zworG σ) a ((-1 : Int32), (0 : Int32))) → zw_Z X M9 (7 * a) (14 * a) 6 [some (.ref (ad 0 0 0)), some (.int w0), some (.int m0), some (.int xa), none, none] [] := by
    refine zl_up (fun a hi6 ih6 => ?_)
    intro xa M9 w0 m0 hxa hW9 hz6
    refine zw_iload_n (x := xa) (pc' := 7) K dX1_worst_6 rfl rfl ?_
    refine zw_bipush (v := 7) (pc' := 9) K dX1_worst_7 (by decide) rfl ?_
    refine zw_icmp_ge (tgt := 77) (pc' := 12) K dX1_worst_9 (by decide) rfl (fun c9 => ?_) (fun c9 => ?_)
    · have hend6 : a = 7 := zi_ge hxa (by decide) hi6 (by decide) c9
      refine zw_iload_n (x := w0) (pc' := 78) K dX1_worst_77 rfl rfl ?_
      exact zw_iret K hE dX1_worst_78 ⟨by show 7 * a ≤ 49; omega, by show 14 * a ≤ 98; omega⟩ (zPo.mk (by unfold zworst; rw [hend6] at hz6; rw [← hz6]) hW9.x)
    · have hlt6 : a < 7 := zi_lt hxa (by decide) hi6 (by decide) c9
      subst hxa
      refine zw_wide (c' := 7 * a + (a + 1)) (n' := 14 * a + 2 * (a + 1)) (by omega) (by omega) ?_
      refine zw_iload_n (x := (nI a)) (pc' := 13) K dX1_worst_12 rfl rfl ?_
      refine zw_iconst (v := 1) (pc' := 14) K dX1_worst_13 (by decide) rfl ?_
      refine zw_iadd (pc' := 15) K dX1_worst_14 rfl ?_
      refine zw_istore (lv' := [some (.ref (ad 0 0 0)), some (.int w0), some (.int m0), some (.int (nI a)), some (.int ((nI a) + 1)), none]) (pc' := 17) K dX1_worst_15 (by decide) rfl rfl ?_
      have L17 : ∀ i : Nat, i ≤ 7 → ∀ (xi : Int32) (M9 : zw_M) (w1 : Int32) (m1 : Int32), xi = nI i → (zW (zw_Xw X) M9 ad σ μ th o) → (a + 1 ≤ i) → ((w1, m1) = zf (fun d => zworF σ a (a + 1 + d)) (i - (a + 1)) (zf (zworG σ) a ((-1 : Int32), (0 : Int32)))) → zw_Z X M9 (7 * a + i) (14 * a + 2 * i) 17 [some (.ref (ad 0 0 0)), some (.int w1), some (.int m1), some (.int (nI a)), some (.int xi), none] [] := by
        refine zl_up (fun i hi17 ih17 => ?_)
        intro xi M9 w1 m1 hxi hW9 hai hz17
        refine zw_iload (x := xi) (pc' := 19) K dX1_worst_17 rfl rfl ?_
        refine zw_bipush (v := 7) (pc' := 21) K dX1_worst_19 (by decide) rfl ?_
        refine zw_icmp_ge (tgt := 71) (pc' := 24) K dX1_worst_21 (by decide) rfl (fun c21 => ?_) (fun c21 => ?_)
        · have hend17 : i = 7 := zi_ge hxi (by decide) hi17 (by decide) c21
          subst hend17
          refine zw_wide (c' := 7 * (a + 1)) (n' := 14 * (a + 1)) (by omega) (by omega) ?_
          refine zw_iinc (x := nI a) (lv' := [some (.ref (ad 0 0 0)), some (.int w1), some (.int m1), some (.int ((nI a) + 1)), some (.int xi), none]) (pc' := 74) K dX1_worst_71 rfl (by decide) rfl rfl ?_
          refine zw_goto (tgt := 6) K dX1_worst_74 (by decide) ?_
          refine zw_weakL (lv' := [some (.ref (ad 0 0 0)), some (.int w1), some (.int m1), some (.int ((nI a) + 1)), none, none]) (by simp [zw_le]) ?_
          exact ih6 hlt6 ((nI a) + 1) M9 w1 m1 (nI_1 a) hW9 (by rw [zf_s, show zworG σ a (zf (zworG σ) a ((-1 : Int32), (0 : Int32))) = zf (fun d => zworF σ a (a + 1 + d)) (6 - a) (zf (zworG σ) a ((-1 : Int32), (0 : Int32))) from rfl, show 6 - a = 7 - (a + 1) by omega]; exact hz17)
        · have hlt17 : i < 7 := zi_lt hxi (by decide) hi17 (by decide) c21
          subst hxi
          refine zw_aload_n (v := .ref (ad 0 0 0)) (pc' := 25) K dX1_worst_24 rfl rfl rfl ?_
          refine zw_new (c' := 7 * a + (i + 1)) (n' := 14 * a + 2 * (i + 1)) (pc' := 28) (fs := [.int 0, .int 0]) K in_X5 (ci := 3) rfl tyX5 tyX5_ok q98 q99 q43 (by decide +kernel) ⟨by show 7 * a + i + 1 ≤ 7 * a + (i + 1); omega, by show 14 * a + 2 * i + 2 ≤ 14 * a + 2 * (i + 1); omega, by show 7 * a + (i + 1) ≤ 49; omega, by show 14 * a + 2 * (i + 1) ≤ 98; omega⟩ dX1_worst_25 rfl (fun q hq => ?_)
          refine zw_nmM (fun M1 eM1 => ?_)
          have f2 : M1 (ad 0 0 0) = some (zw_eC 0 [.ref (ad 1 0 0), .ref (ad 2 0 0), .ref (ad 3 0 0), .int (zv σ 6 0)]) := by rw [eM1]; exact zw_un' (zw_nn hW9.c0 hq) hW9.c0
          have f3 : M1 (ad 1 0 0) = some (zw_eL (zn σ) (fun t => ad 10 t 0)) := by rw [eM1]; exact zw_un' (zw_nn hW9.c1 hq) hW9.c1
          have f4 : M1 (ad 2 0 0) = some (zw_eL (zg σ) (fun f => ad 20 f 0)) := by rw [eM1]; exact zw_un' (zw_nn hW9.c2 hq) hW9.c2
          have f5 : M1 (ad 3 0 0) = some (zw_eI (zw_Xw X) 7 (zv σ 13)) := by rw [eM1]; exact zw_un' (zw_nn hW9.c3 hq) hW9.c3
          have f6 : M1 q = some (zw_eC 3 [.int 0, .int 0]) := by rw [eM1]; exact zw_us
          refine zw_dup (pc' := 29) K dX1_worst_28 rfl rfl ?_
          refine zw_iload_n (x := nI a) (pc' := 30) K dX1_worst_29 rfl rfl ?_
          refine zw_iload (x := (nI i)) (pc' := 32) K dX1_worst_30 rfl rfl ?_
          refine zc_X1_62 (rest := [.ref q, .ref (ad 0 0 0)]) (c' := 7 * a + (i + 1)) (n' := 14 * a + 2 * (i + 1)) (pc' := 35) K (ct_X5_init hl M1 q (nI a) (nI i) f6) rfl rfl dX1_worst_32 rfl (Nat.le_of_ble_eq_true rfl) ⟨Nat.le_of_ble_eq_true rfl, Nat.le_of_ble_eq_true rfl⟩ ⟨by show 7 * a + (i + 1) + 0 ≤ 7 * a + (i + 1); omega, by show 14 * a + 2 * (i + 1) + 0 ≤ 14 * a + 2 * (i + 1); omega, by show 7 * a + (i + 1) ≤ 49; omega, by show 14 * a + 2 * (i + 1) ≤ 98; omega⟩ (zw_kv fun Ma h => ?_) zw_kn
          have hWa : zW (zw_Xw X) Ma ad σ μ th o := hW9.keep (fun b e he => by rw [show Ma = _ from h, eM1]; exact zw_un' (zw_nn he hq) (zw_un' (zw_nn he hq) he))
          obtain ⟨-, hmin, hmax⟩ : a < i ∧ zs_min (nI a) (nI i) = nI a ∧ zs_max (nI a) (nI i) = nI i := by rcases zmm (a := a) (b := i) hlt6 hlt17 (by omega) with z | z; exact z; exact absurd z.1 (by omega)
          have hP : Ma q = some (zw_eC 3 [.int (nI a), .int (nI i)]) := by rw [show Ma = _ from h, hmin, hmax]; exact zw_us
          refine zc_X1_163 (rest := []) (c' := 7 * a + (i + 1)) (n' := 14 * a + 2 * (i + 1)) (pc' := 38) K (ct_X1_suspicionOf hl hWa hI hlt6 hlt17 (by omega) hP) hWa.c0 rfl rfl dX1_worst_35 rfl (Nat.le_of_ble_eq_true rfl) ⟨Nat.le_of_ble_eq_true rfl, Nat.le_of_ble_eq_true rfl⟩ ⟨by show 7 * a + (i + 1) + 0 ≤ 7 * a + (i + 1); omega, by show 14 * a + 2 * (i + 1) + 0 ≤ 14 * a + 2 * (i + 1); omega, by show 7 * a + (i + 1) ≤ 49; omega, by show 14 * a + 2 * (i + 1) ≤ 98; omega⟩ (zw_kp ?_) zw_kn
          refine zw_nmi (fun sp esp => ?_)
          refine zw_istore (lv' := [some (.ref (ad 0 0 0)), some (.int w1), some (.int m1), some (.int (nI a)), some (.int (nI i)), some (.int sp)]) (pc' := 40) K dX1_worst_38 (by decide) rfl rfl ?_
          refine zw_iload (x := sp) (pc' := 42) K dX1_worst_40 rfl rfl ?_
          refine zw_iload_n (x := m1) (pc' := 43) K dX1_worst_42 rfl rfl ?_
          refine zw_icmp_le (tgt := 56) (pc' := 46) K dX1_worst_43 (by decide) rfl (fun c43 => ?_) (fun c43 => ?_)
          · refine zw_iload_n (x := w1) (pc' := 57) K dX1_worst_56 rfl rfl ?_
            refine zw_istore_n (lv' := [some (.ref (ad 0 0 0)), some (.int w1), some (.int m1), some (.int (nI a)), some (.int (nI i)), some (.int sp)]) (pc' := 58) K dX1_worst_57 (by decide) rfl rfl ?_
            refine zw_iload_n (x := m1) (pc' := 59) K dX1_worst_58 rfl rfl ?_
            refine zw_iload (x := sp) (pc' := 61) K dX1_worst_59 rfl rfl ?_
            refine zw_max (pc' := 64) K q186 q108 q33 q109 ⟨Nat.le_of_ble_eq_true rfl, Nat.le_of_ble_eq_true rfl, by show 7 * a + (i + 1) ≤ 49; omega, by show 14 * a + 2 * (i + 1) ≤ 98; omega⟩ dX1_worst_61 rfl ?_
            refine zw_istore_n (lv' := [some (.ref (ad 0 0 0)), some (.int w1), some (.int (if m1 < sp then sp else m1)), some (.int (nI a)), some (.int (nI i)), some (.int sp)]) (pc' := 65) K dX1_worst_64 (by decide) rfl rfl ?_
            refine zw_iinc (x := (nI i)) (lv' := [some (.ref (ad 0 0 0)), some (.int w1), some (.int (if m1 < sp then sp else m1)), some (.int (nI a)), some (.int ((nI i) + 1)), some (.int sp)]) (pc' := 68) K dX1_worst_65 rfl (by decide) rfl rfl ?_
            refine zw_goto (tgt := 17) K dX1_worst_68 (by decide) ?_
            refine zw_weakL (lv' := [some (.ref (ad 0 0 0)), some (.int w1), some (.int (if m1 < sp then sp else m1)), some (.int (nI a)), some (.int ((nI i) + 1)), none]) (by simp [zw_le]) ?_
            exact ih17 hlt17 ((nI i) + 1) Ma w1 (if m1 < sp then sp else m1) (nI_1 i) hWa (by omega) (by rw [show i + 1 - (a + 1) = (i - (a + 1)) + 1 by omega, zf_s, ← hz17]; show (w1, (if m1 < sp then sp else m1)) = zworF σ a (a + 1 + (i - (a + 1))) (w1, m1); rw [show a + 1 + (i - (a + 1)) = i by omega]; unfold zworF; rw [← esp, if_neg (Int32.not_lt.mpr c43), if_neg (Int32.not_lt.mpr c43)])
          · refine zw_bipush (v := 10) (pc' := 48) K dX1_worst_46 (by decide) rfl ?_
            refine zw_iload_n (x := nI a) (pc' := 49) K dX1_worst_48 rfl rfl ?_
            refine zw_imul (pc' := 50) K dX1_worst_49 rfl ?_
            refine zw_iload (x := (nI i)) (pc' := 52) K dX1_worst_50 rfl rfl ?_
            refine zw_iadd (pc' := 53) K dX1_worst_52 rfl ?_
            refine zw_goto (tgt := 57) K dX1_worst_53 (by decide) ?_
            refine zw_istore_n (lv' := [some (.ref (ad 0 0 0)), some (.int ((10 * (nI a)) + (nI i))), some (.int m1), some (.int (nI a)), some (.int (nI i)), some (.int sp)]) (pc' := 58) K dX1_worst_57 (by decide) rfl rfl ?_
            refine zw_iload_n (x := m1) (pc' := 59) K dX1_worst_58 rfl rfl ?_
            refine zw_iload (x := sp) (pc' := 61) K dX1_worst_59 rfl rfl ?_
            refine zw_max (pc' := 64) K q186 q108 q33 q109 ⟨Nat.le_of_ble_eq_true rfl, Nat.le_of_ble_eq_true rfl, by show 7 * a + (i + 1) ≤ 49; omega, by show 14 * a + 2 * (i + 1) ≤ 98; omega⟩ dX1_worst_61 rfl ?_
            refine zw_istore_n (lv' := [some (.ref (ad 0 0 0)), some (.int ((10 * (nI a)) + (nI i))), some (.int (if m1 < sp then sp else m1)), some (.int (nI a)), some (.int (nI i)), some (.int sp)]) (pc' := 65) K dX1_worst_64 (by decide) rfl rfl ?_
            refine zw_iinc (x := (nI i)) (lv' := [some (.ref (ad 0 0 0)), some (.int ((10 * (nI a)) + (nI i))), some (.int (if m1 < sp then sp else m1)), some (.int (nI a)), some (.int ((nI i) + 1)), some (.int sp)]) (pc' := 68) K dX1_worst_65 rfl (by decide) rfl rfl ?_
            refine zw_goto (tgt := 17) K dX1_worst_68 (by decide) ?_
            refine zw_weakL (lv' := [some (.ref (ad 0 0 0)), some (.int ((10 * (nI a)) + (nI i))), some (.int (if m1 < sp then sp else m1)), some (.int (nI a)), some (.int ((nI i) + 1)), none]) (by simp [zw_le]) ?_
            exact ih17 hlt17 ((nI i) + 1) Ma ((10 * (nI a)) + (nI i)) (if m1 < sp then sp else m1) (nI_1 i) hWa (by omega) (by rw [show i + 1 - (a + 1) = (i - (a + 1)) + 1 by omega, zf_s, ← hz17]; show ((10 * nI a + nI i), (if m1 < sp then sp else m1)) = zworF σ a (a + 1 + (i - (a + 1))) (w1, m1); rw [show a + 1 + (i - (a + 1)) = i by omega]; unfold zworF; rw [← esp, if_pos (Int32.not_le.mp c43), if_pos (Int32.not_le.mp c43)])
      exact L17 (a + 1) (by omega) ((nI a) + 1) M9 w0 m0 (nI_1 a) hW9 (Nat.le_refl _) (by rw [Nat.sub_self]; exact hz6)
  exact L6 0 (Nat.zero_le _) 0 M (-1) 0 rfl hW rfl
