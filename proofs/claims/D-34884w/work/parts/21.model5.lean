/-! CartelWatchModel: the calls of the law, third part: worst, tell, file -/
set_option maxRecDepth 100000
theorem ztell_0 {μ : zS} {f b t : Int32} (h : ztellc μ f b t = 0) : zin f (zg μ) = true ∧ zin t (zn μ) = true ∧ zof μ (zx f) b = true ∧ zv μ 12 (zx f) = 0 := by
  unfold ztellc at h
  by_cases h1 : (zin f (zg μ) && zin t (zn μ)) = false
  · rw [if_pos h1] at h; exact absurd h (by decide)
  · rw [if_neg h1] at h
    by_cases h2 : zof μ (zx f) b = false
    · rw [if_pos h2] at h; exact absurd h (by decide)
    · rw [if_neg h2] at h
      by_cases h3 : zv μ 12 (zx f) = 0
      · simp only [Bool.not_eq_false, Bool.and_eq_true] at h1 h2
        exact ⟨h1.1, h1.2, h2, h3⟩
      · rw [if_neg h3] at h; exact absurd h (by decide)
set_option maxHeartbeats 2000000 in
theorem ct_X2_worst {w : zw_W} {l : Launch} (hl : l.stackTraces = false) {M : zw_M} {ad : Nat → Nat → Nat → Nat} {σ μ : zS} {th : Int32} {o : Int64} (hW : zW w M ad σ μ th o) (hI : zI μ) : zw_C w l yX2_worst cX2_worst 6 (Option.some Jvm.ClassFile.FieldType.int) (zr 5 0 0) [.ref (ad 100 0 0)] M (zw_pi fun r M1 => r = zworst μ ∧ zW w M1 ad σ μ 0 o) zw_no := by
  refine zw_enter RX2 rfl (by decide) hl (by simp [Value.category]) (Nat.le_of_ble_eq_true rfl) (fun X hXl hXw K hE htab hcon => ?_)
  subst hXl; subst hXw
  show zw_Z X _ 0 0 0 [some (.ref (ad 100 0 0)), none, none, none, none, none] []
  refine zw_aload_n (v := .ref (ad 100 0 0)) (pc' := 1) K dX2_worst_0 rfl rfl rfl ?_
  refine zw_iconst (v := 0) (pc' := 2) K dX2_worst_1 (by decide) rfl ?_
  refine zp_X2_60 (v := .int 0) (pc' := 5) K hW.mo rfl rfl (by simp [zmob]) dX2_worst_2 rfl ?_
  refine zw_nmM (fun M1 eM1 => ?_)
  have hW2 : zW (zw_Xw X) M1 ad σ μ 0 o := by rw [eM1]; exact hW.pth
  refine zw_iconst (v := (-1)) (pc' := 6) K dX2_worst_5 (by decide) rfl ?_
  refine zw_istore_n (lv' := [some (.ref (ad 100 0 0)), some (.int (-1)), none, none, none, none]) (pc' := 7) K dX2_worst_6 (by decide) rfl rfl ?_
  refine zw_iconst (v := 0) (pc' := 8) K dX2_worst_7 (by decide) rfl ?_
  refine zw_istore_n (lv' := [some (.ref (ad 100 0 0)), some (.int (-1)), some (.int 0), none, none, none]) (pc' := 9) K dX2_worst_8 (by decide) rfl rfl ?_
  refine zw_iconst (v := 0) (pc' := 10) K dX2_worst_9 (by decide) rfl ?_
  refine zw_istore_n (lv' := [some (.ref (ad 100 0 0)), some (.int (-1)), some (.int 0), some (.int 0), none, none]) (pc' := 11) K dX2_worst_10 (by decide) rfl rfl ?_
  have L11 : ∀ a : Nat, a ≤ 7 → ∀ (xa : Int32) (best : Int32) (most : Int32), xa = nI a → ((best, most) = zf (zworG μ) a (-1, 0)) → zw_Z X M1 0 0 11 [some (.ref (ad 100 0 0)), some (.int best), some (.int most), some (.int xa), none, none] [] := by
    refine zl_up (fun a hi11 ih11 => ?_)
    intro xa best most hxa hz
    refine zw_iload_n (x := xa) (pc' := 12) K dX2_worst_11 rfl rfl ?_
    refine zw_bipush (v := 7) (pc' := 14) K dX2_worst_12 (by decide) rfl ?_
    refine zw_icmp_ge (tgt := 81) (pc' := 17) K dX2_worst_14 (by decide) rfl (fun c14 => ?_) (fun c14 => ?_)
    · have hend11 : a = 7 := zi_ge hxa (by decide) hi11 (by decide) c14
      refine zw_iload_n (x := best) (pc' := 82) K dX2_worst_81 rfl rfl ?_
      exact zw_iret K hE dX2_worst_82 ⟨Nat.le_of_ble_eq_true rfl, Nat.le_of_ble_eq_true rfl⟩ (⟨by unfold zworst; rw [← hend11, ← hz], hW2⟩)
    · have hlt11 : a < 7 := zi_lt hxa (by decide) hi11 (by decide) c14
      subst hxa
      refine zw_iload_n (x := (nI a)) (pc' := 18) K dX2_worst_17 rfl rfl ?_
      refine zw_iconst (v := 1) (pc' := 19) K dX2_worst_18 (by decide) rfl ?_
      refine zw_iadd (pc' := 20) K dX2_worst_19 rfl ?_
      refine zw_istore (lv' := [some (.ref (ad 100 0 0)), some (.int best), some (.int most), some (.int (nI a)), some (.int ((nI a) + 1)), none]) (pc' := 22) K dX2_worst_20 (by decide) rfl rfl ?_
      have L22 : ∀ b : Nat, b ≤ 7 → ∀ (xb : Int32) (b1 : Int32) (m1 : Int32), xb = nI b → ((b1, m1) = zf (fun d => zworF μ a (a + 1 + d)) (b - (a + 1)) (best, most)) → (a + 1 ≤ b) → zw_Z X M1 0 0 22 [some (.ref (ad 100 0 0)), some (.int b1), some (.int m1), some (.int (nI a)), some (.int xb), none] [] := by
        refine zl_up (fun b hi22 ih22 => ?_)
        intro xb b1 m1 hxb hz2 hb
        refine zw_iload (x := xb) (pc' := 24) K dX2_worst_22 rfl rfl ?_
        refine zw_bipush (v := 7) (pc' := 26) K dX2_worst_24 (by decide) rfl ?_
        refine zw_icmp_ge (tgt := 75) (pc' := 29) K dX2_worst_26 (by decide) rfl (fun c26 => ?_) (fun c26 => ?_)
        · have hend22 : b = 7 := zi_ge hxb (by decide) hi22 (by decide) c26
          refine zw_iinc (x := nI a) (lv' := [some (.ref (ad 100 0 0)), some (.int b1), some (.int m1), some (.int ((nI a) + 1)), some (.int xb), none]) (pc' := 78) K dX2_worst_75 rfl (by decide) rfl rfl ?_
          refine zw_goto (tgt := 11) K dX2_worst_78 (by decide) ?_
          refine zw_weakL (lv' := [some (.ref (ad 100 0 0)), some (.int b1), some (.int m1), some (.int ((nI a) + 1)), none, none]) (by simp [zw_le]) ?_
          exact ih11 hlt11 ((nI a) + 1) b1 m1 (nI_1 a) (by rw [zf_s, ← hz, hz2, hend22]; unfold zworG; rw [show 7 - (a + 1) = 6 - a by omega])
        · have hlt22 : b < 7 := zi_lt hxb (by decide) hi22 (by decide) c26
          subst hxb
          refine zw_aload_n (v := .ref (ad 100 0 0)) (pc' := 30) K dX2_worst_29 rfl rfl rfl ?_
          refine zw_iload_n (x := nI a) (pc' := 31) K dX2_worst_30 rfl rfl ?_
          refine zw_iload (x := (nI b)) (pc' := 33) K dX2_worst_31 rfl rfl ?_
          refine zc_X2_108 (rest := []) (c' := 0) (n' := 0) (pc' := 36) K (ct_X2_suspicionOf hl hW2 hI.j a b hlt11 hlt22) hW2.mo rfl rfl dX2_worst_33 rfl (Nat.le_of_ble_eq_true rfl) ⟨Nat.le_of_ble_eq_true rfl, Nat.le_of_ble_eq_true rfl⟩ ⟨Nat.le_of_ble_eq_true rfl, Nat.le_of_ble_eq_true rfl, Nat.le_of_ble_eq_true rfl, Nat.le_of_ble_eq_true rfl⟩ (zw_kp ?_) zw_kn
          refine zw_istore (lv' := [some (.ref (ad 100 0 0)), some (.int b1), some (.int m1), some (.int (nI a)), some (.int (nI b)), some (.int (zsusp μ (nI a) (nI b)))]) (pc' := 38) K dX2_worst_36 (by decide) rfl rfl ?_
          refine zw_iload (x := zsusp μ (nI a) (nI b)) (pc' := 40) K dX2_worst_38 rfl rfl ?_
          refine zw_iload_n (x := m1) (pc' := 41) K dX2_worst_40 rfl rfl ?_
          refine zw_icmp_le (tgt := 54) (pc' := 44) K dX2_worst_41 (by decide) rfl (fun c41 => ?_) (fun c41 => ?_)
          · refine zw_iload_n (x := b1) (pc' := 55) K dX2_worst_54 rfl rfl ?_
            refine zw_istore_n (lv' := [some (.ref (ad 100 0 0)), some (.int b1), some (.int m1), some (.int (nI a)), some (.int (nI b)), some (.int (zsusp μ (nI a) (nI b)))]) (pc' := 56) K dX2_worst_55 (by decide) rfl rfl ?_
            refine zw_iload (x := zsusp μ (nI a) (nI b)) (pc' := 58) K dX2_worst_56 rfl rfl ?_
            refine zw_iload_n (x := m1) (pc' := 59) K dX2_worst_58 rfl rfl ?_
            refine zw_icmp_le (tgt := 67) (pc' := 62) K dX2_worst_59 (by decide) rfl (fun c59 => ?_) (fun c59 => by exact absurd c41 c59)
            refine zw_iload_n (x := m1) (pc' := 68) K dX2_worst_67 rfl rfl ?_
            refine zw_istore_n (lv' := [some (.ref (ad 100 0 0)), some (.int b1), some (.int m1), some (.int (nI a)), some (.int (nI b)), some (.int (zsusp μ (nI a) (nI b)))]) (pc' := 69) K dX2_worst_68 (by decide) rfl rfl ?_
            refine zw_iinc (x := (nI b)) (lv' := [some (.ref (ad 100 0 0)), some (.int b1), some (.int m1), some (.int (nI a)), some (.int ((nI b) + 1)), some (.int (zsusp μ (nI a) (nI b)))]) (pc' := 72) K dX2_worst_69 rfl (by decide) rfl rfl ?_
            refine zw_goto (tgt := 22) K dX2_worst_72 (by decide) ?_
            refine zw_weakL (lv' := [some (.ref (ad 100 0 0)), some (.int b1), some (.int m1), some (.int (nI a)), some (.int ((nI b) + 1)), none]) (by simp [zw_le]) ?_
            exact ih22 hlt22 ((nI b) + 1) b1 m1 (nI_1 b) (by rw [show b + 1 - (a + 1) = (b - (a + 1)) + 1 by omega, zf_s, ← hz2]; unfold zworF; rw [show a + 1 + (b - (a + 1)) = b by omega]; simp [Int32.not_lt.mpr c41]) (by omega)
          · refine zw_bipush (v := 10) (pc' := 46) K dX2_worst_44 (by decide) rfl ?_
            refine zw_iload_n (x := nI a) (pc' := 47) K dX2_worst_46 rfl rfl ?_
            refine zw_imul (pc' := 48) K dX2_worst_47 rfl ?_
            refine zw_iload (x := (nI b)) (pc' := 50) K dX2_worst_48 rfl rfl ?_
            refine zw_iadd (pc' := 51) K dX2_worst_50 rfl ?_
            refine zw_goto (tgt := 55) K dX2_worst_51 (by decide) ?_
            refine zw_istore_n (lv' := [some (.ref (ad 100 0 0)), some (.int ((10 * (nI a)) + (nI b))), some (.int m1), some (.int (nI a)), some (.int (nI b)), some (.int (zsusp μ (nI a) (nI b)))]) (pc' := 56) K dX2_worst_55 (by decide) rfl rfl ?_
            refine zw_iload (x := zsusp μ (nI a) (nI b)) (pc' := 58) K dX2_worst_56 rfl rfl ?_
            refine zw_iload_n (x := m1) (pc' := 59) K dX2_worst_58 rfl rfl ?_
            refine zw_icmp_le (tgt := 67) (pc' := 62) K dX2_worst_59 (by decide) rfl (fun c59 => by exact absurd c59 c41) (fun c59 => ?_)
            refine zw_iload (x := zsusp μ (nI a) (nI b)) (pc' := 64) K dX2_worst_62 rfl rfl ?_
            refine zw_goto (tgt := 68) K dX2_worst_64 (by decide) ?_
            refine zw_istore_n (lv' := [some (.ref (ad 100 0 0)), some (.int ((10 * (nI a)) + (nI b))), some (.int (zsusp μ (nI a) (nI b))), some (.int (nI a)), some (.int (nI b)), some (.int (zsusp μ (nI a) (nI b)))]) (pc' := 69) K dX2_worst_68 (by decide) rfl rfl ?_
            refine zw_iinc (x := (nI b)) (lv' := [some (.ref (ad 100 0 0)), some (.int ((10 * (nI a)) + (nI b))), some (.int (zsusp μ (nI a) (nI b))), some (.int (nI a)), some (.int ((nI b) + 1)), some (.int (zsusp μ (nI a) (nI b)))]) (pc' := 72) K dX2_worst_69 rfl (by decide) rfl rfl ?_
            refine zw_goto (tgt := 22) K dX2_worst_72 (by decide) ?_
            refine zw_weakL (lv' := [some (.ref (ad 100 0 0)), some (.int ((10 * (nI a)) + (nI b))), some (.int (zsusp μ (nI a) (nI b))), some (.int (nI a)), some (.int ((nI b) + 1)), none]) (by simp [zw_le]) ?_
            exact ih22 hlt22 ((nI b) + 1) ((10 * (nI a)) + (nI b)) (zsusp μ (nI a) (nI b)) (nI_1 b) (by rw [show b + 1 - (a + 1) = (b - (a + 1)) + 1 by omega, zf_s, ← hz2]; unfold zworF; rw [show a + 1 + (b - (a + 1)) = b by omega]; simp [Int32.not_le.mp c41]) (by omega)
      exact L22 (a + 1) (by omega) ((nI a) + 1) best most (nI_1 a) (by rw [Nat.sub_self]; rfl) (Nat.le_refl _)
  exact L11 0 (Nat.zero_le _) 0 (-1) 0 rfl rfl
set_option maxHeartbeats 2000000 in
theorem ct_X2_tell {w : zw_W} {l : Launch} (hl : l.stackTraces = false) {M : zw_M} {ad : Nat → Nat → Nat → Nat} {σ μ : zS} {th : Int32} {o : Int64} (hW : zW w M ad σ μ th o) (hI : zI μ) (f b t : Int32) : zw_C w l yX2_tell cX2_tell 5 (Option.some Jvm.ClassFile.FieldType.boolean) (zr 3 0 0) [.ref (ad 100 0 0), .int f, .int b, .int t] M (zw_pi fun r M1 => r = (zop_tell μ f b t).1 ∧ zW w M1 ad σ (zop_tell μ f b t).2.2 (zop_tell μ f b t).2.1 o) zw_no := by
  refine zw_enter RX2 rfl (by decide) hl (by simp [Value.category]) (Nat.le_of_ble_eq_true rfl) (fun X hXl hXw K hE htab hcon => ?_)
  subst hXl; subst hXw
  show zw_Z X _ 0 0 0 [some (.ref (ad 100 0 0)), some (.int f), some (.int b), some (.int t), none] []
  refine zw_aload_n (v := .ref (ad 100 0 0)) (pc' := 1) K dX2_tell_0 rfl rfl rfl ?_
  have J48 : ∀ (tc : Int32), (tc = ztellc μ f b t) → zw_Z X M 0 0 48 [some (.ref (ad 100 0 0)), some (.int f), some (.int b), some (.int t), none] [.int tc, .ref (ad 100 0 0)] := by
    intro tc htc
    refine zp_X2_60 (v := .int tc) (pc' := 51) K hW.mo rfl rfl (by simp [zmob]) dX2_tell_48 rfl ?_
    refine zw_nmM (fun M1 eM1 => ?_)
    have hW2 : zW (zw_Xw X) M1 ad σ μ tc o := by rw [eM1]; exact hW.pth
    refine zw_aload_n (v := .ref (ad 100 0 0)) (pc' := 52) K dX2_tell_51 rfl rfl rfl ?_
    refine zg_X2_60 (v := .int tc) (pc' := 55) K hW2.mo rfl dX2_tell_52 rfl ?_
    refine zw_if_ne (tgt := 89) (pc' := 58) K dX2_tell_55 (by decide) rfl (fun c55 => ?_) (fun c55 => ?_)
    · refine zw_iconst (v := 0) (pc' := 90) K dX2_tell_89 (by decide) rfl ?_
      refine zw_istore (lv' := [some (.ref (ad 100 0 0)), some (.int f), some (.int b), some (.int t), some (.int 0)]) (pc' := 92) K dX2_tell_90 (by decide) rfl rfl ?_
      refine zw_iload (x := 0) (pc' := 94) K dX2_tell_92 rfl rfl ?_
      refine zw_if_eq (tgt := 163) (pc' := 97) K dX2_tell_94 (by decide) rfl (fun c94 => ?_) (fun c94 => absurd c94 (by decide))
      refine zw_iload (x := 0) (pc' := 165) K dX2_tell_163 rfl rfl ?_
      exact zw_zret K hE rfl dX2_tell_165 ⟨Nat.le_of_ble_eq_true rfl, Nat.le_of_ble_eq_true rfl⟩ (⟨by have hf : zfresh μ f b t = false := (by simp [zfresh, ← htc, c55]); simp [zop_tell, hf, zb], by have hf : zfresh μ f b t = false := (by simp [zfresh, ← htc, c55]); rw [show (zop_tell μ f b t).2.2 = μ from by simp [zop_tell, hf], show (zop_tell μ f b t).2.1 = tc from htc.symm]; exact hW2⟩)
    · obtain ⟨k1, k2, k3, k4⟩ := ztell_0 (htc.symm.trans c55)
      obtain ⟨jf, hjf, rfl⟩ := zin_of k1 (by have := hI.g; omega)
      obtain ⟨jt, hjt, rfl⟩ := zin_of k2 (by have := hI.n; omega)
      have xf : zx (nI jf) = jf := zx_n (by have := hI.g; omega)
      have xt : zx (nI jt) = jt := zx_n (by have := hI.n; omega)
      have h32 : ∀ q ∈ zmt μ jf, q < 32 := fun q hq => by have := hI.n; have := (hI.ls hjf).2.1 q hq; omega
      have h33 : ∀ q ∈ ztd μ jf, q < 32 := fun q hq => h32 q ((hI.ls hjf).2.2.2 q hq)
      refine zw_aload_n (v := .ref (ad 100 0 0)) (pc' := 59) K dX2_tell_58 rfl rfl rfl ?_
      refine zg_X2_39 (v := .ref (ad 115 0 0)) (pc' := 62) K hW2.mo rfl dX2_tell_59 rfl ?_
      refine zw_iload_n (x := (nI jf)) (pc' := 63) K dX2_tell_62 rfl rfl ?_
      refine zn_iald (j := jf) (v := (zbits (zmt μ jf))) (pc' := 64) K hW2.m14 rfl (by have := hI.g; omega) rfl dX2_tell_63 rfl ?_
      refine zw_iload_n (x := (nI jt)) (pc' := 65) K dX2_tell_64 rfl rfl ?_
      refine zw_ishr (pc' := 66) K dX2_tell_65 rfl ?_
      refine zw_iconst (v := 1) (pc' := 67) K dX2_tell_66 (by decide) rfl ?_
      refine zw_iand (pc' := 68) K dX2_tell_67 rfl ?_
      rw [zbits_at h32 (by have := hI.n; omega)]
      refine zw_iconst (v := 1) (pc' := 69) K dX2_tell_68 (by decide) rfl ?_
      refine zw_icmp_ne (tgt := 89) (pc' := 72) K dX2_tell_69 (by decide) rfl (fun c69 => ?_) (fun c69 => ?_)
      · refine zw_iconst (v := 0) (pc' := 90) K dX2_tell_89 (by decide) rfl ?_
        refine zw_istore (lv' := [some (.ref (ad 100 0 0)), some (.int (nI jf)), some (.int b), some (.int (nI jt)), some (.int 0)]) (pc' := 92) K dX2_tell_90 (by decide) rfl rfl ?_
        refine zw_iload (x := 0) (pc' := 94) K dX2_tell_92 rfl rfl ?_
        refine zw_if_eq (tgt := 163) (pc' := 97) K dX2_tell_94 (by decide) rfl (fun c94 => ?_) (fun c94 => absurd c94 (by decide))
        refine zw_iload (x := 0) (pc' := 165) K dX2_tell_163 rfl rfl ?_
        exact zw_zret K hE rfl dX2_tell_165 ⟨Nat.le_of_ble_eq_true rfl, Nat.le_of_ble_eq_true rfl⟩ (⟨by have hf : zfresh μ (nI jf) b (nI jt) = false := (by simp only [zb_1] at c69; simp only [decide_eq_true_eq] at c69; simp [zfresh, xf, xt, c69]); simp [zop_tell, hf, zb], by have hf : zfresh μ (nI jf) b (nI jt) = false := (by simp only [zb_1] at c69; simp only [decide_eq_true_eq] at c69; simp [zfresh, xf, xt, c69]); rw [show (zop_tell μ (nI jf) b (nI jt)).2.2 = μ from by simp [zop_tell, hf], show (zop_tell μ (nI jf) b (nI jt)).2.1 = tc from htc.symm]; exact hW2⟩)
      · refine zw_aload_n (v := .ref (ad 100 0 0)) (pc' := 73) K dX2_tell_72 rfl rfl rfl ?_
        refine zg_X2_42 (v := .ref (ad 116 0 0)) (pc' := 76) K hW2.mo rfl dX2_tell_73 rfl ?_
        refine zw_iload_n (x := (nI jf)) (pc' := 77) K dX2_tell_76 rfl rfl ?_
        refine zn_iald (j := jf) (v := (zbits (ztd μ jf))) (pc' := 78) K hW2.m15 rfl (by have := hI.g; omega) rfl dX2_tell_77 rfl ?_
        refine zw_iload_n (x := (nI jt)) (pc' := 79) K dX2_tell_78 rfl rfl ?_
        refine zw_ishr (pc' := 80) K dX2_tell_79 rfl ?_
        refine zw_iconst (v := 1) (pc' := 81) K dX2_tell_80 (by decide) rfl ?_
        refine zw_iand (pc' := 82) K dX2_tell_81 rfl ?_
        rw [zbits_at h33 (by have := hI.n; omega)]
        refine zw_if_ne (tgt := 89) (pc' := 85) K dX2_tell_82 (by decide) rfl (fun c82 => ?_) (fun c82 => ?_)
        · have c82 := zb_nz.mp c82
          refine zw_iconst (v := 0) (pc' := 90) K dX2_tell_89 (by decide) rfl ?_
          refine zw_istore (lv' := [some (.ref (ad 100 0 0)), some (.int (nI jf)), some (.int b), some (.int (nI jt)), some (.int 0)]) (pc' := 92) K dX2_tell_90 (by decide) rfl rfl ?_
          refine zw_iload (x := 0) (pc' := 94) K dX2_tell_92 rfl rfl ?_
          refine zw_if_eq (tgt := 163) (pc' := 97) K dX2_tell_94 (by decide) rfl (fun c94 => ?_) (fun c94 => absurd c94 (by decide))
          refine zw_iload (x := 0) (pc' := 165) K dX2_tell_163 rfl rfl ?_
          exact zw_zret K hE rfl dX2_tell_165 ⟨Nat.le_of_ble_eq_true rfl, Nat.le_of_ble_eq_true rfl⟩ (⟨by have hf : zfresh μ (nI jf) b (nI jt) = false := (by simp only [decide_eq_true_eq] at c82; simp [zfresh, xf, xt, c82]); simp [zop_tell, hf, zb], by have hf : zfresh μ (nI jf) b (nI jt) = false := (by simp only [decide_eq_true_eq] at c82; simp [zfresh, xf, xt, c82]); rw [show (zop_tell μ (nI jf) b (nI jt)).2.2 = μ from by simp [zop_tell, hf], show (zop_tell μ (nI jf) b (nI jt)).2.1 = tc from htc.symm]; exact hW2⟩)
        · have c82 := zb_0.mp c82
          refine zw_iconst (v := 1) (pc' := 86) K dX2_tell_85 (by decide) rfl ?_
          refine zw_goto (tgt := 90) K dX2_tell_86 (by decide) ?_
          refine zw_istore (lv' := [some (.ref (ad 100 0 0)), some (.int (nI jf)), some (.int b), some (.int (nI jt)), some (.int 1)]) (pc' := 92) K dX2_tell_90 (by decide) rfl rfl ?_
          refine zw_iload (x := 1) (pc' := 94) K dX2_tell_92 rfl rfl ?_
          refine zw_if_eq (tgt := 163) (pc' := 97) K dX2_tell_94 (by decide) rfl (fun c94 => absurd c94 (by decide)) (fun c94 => ?_)
          refine zw_aload_n (v := .ref (ad 100 0 0)) (pc' := 98) K dX2_tell_97 rfl rfl rfl ?_
          refine zg_X2_42 (v := .ref (ad 116 0 0)) (pc' := 101) K hW2.mo rfl dX2_tell_98 rfl ?_
          refine zw_iload_n (x := (nI jf)) (pc' := 102) K dX2_tell_101 rfl rfl ?_
          refine zw_dup2 (pc' := 103) K dX2_tell_102 rfl rfl rfl ?_
          refine zn_iald (j := jf) (v := (zbits (ztd μ jf))) (pc' := 104) K hW2.m15 rfl (by have := hI.g; omega) rfl dX2_tell_103 rfl ?_
          refine zw_iconst (v := 1) (pc' := 105) K dX2_tell_104 (by decide) rfl ?_
          refine zw_iload_n (x := (nI jt)) (pc' := 106) K dX2_tell_105 rfl rfl ?_
          refine zw_ishl (pc' := 107) K dX2_tell_106 rfl ?_
          refine zw_ior (pc' := 108) K dX2_tell_107 rfl ?_
          refine zn_iast (j := jf) (pc' := 109) K hW2.m15 rfl (by have := hI.g; omega) dX2_tell_108 rfl ?_
          refine zw_nmM (fun M3 eM3 => ?_)
          have hW4 : zW (zw_Xw X) M3 ad σ (zsett μ jf (ztd μ jf ++ [jt])) tc o := by rw [eM3]; exact hW2.p15 (by rw [zbits_app]; rfl)
          refine zw_aload_n (v := .ref (ad 100 0 0)) (pc' := 110) K dX2_tell_109 rfl rfl rfl ?_
          refine zg_X2_45 (v := .ref (ad 110 0 0)) (pc' := 113) K hW4.mo rfl dX2_tell_110 rfl ?_
          refine zw_iload_n (x := (nI jf)) (pc' := 114) K dX2_tell_113 rfl rfl ?_
          have J134 : ∀ (nf : Int32), (nf = (if zv μ 9 jf = -1 then b else zv μ 9 jf)) → zw_Z X M3 0 0 134 [some (.ref (ad 100 0 0)), some (.int (nI jf)), some (.int b), some (.int (nI jt)), some (.int 1)] [.int nf, .int (nI jf), .ref (ad 110 0 0)] := by
            intro nf hnf
            refine zn_iast (j := jf) (pc' := 135) K hW4.m9 rfl (by have := hI.g; omega) dX2_tell_134 rfl ?_
            refine zw_nmM (fun M5 eM5 => ?_)
            have hW6 : zW (zw_Xw X) M5 ad σ (zset (zsett μ jf (ztd μ jf ++ [jt])) 9 jf nf) tc o := by rw [eM5]; exact hW4.p9
            refine zw_aload_n (v := .ref (ad 100 0 0)) (pc' := 136) K dX2_tell_135 rfl rfl rfl ?_
            refine zg_X2_48 (v := .ref (ad 111 0 0)) (pc' := 139) K hW6.mo rfl dX2_tell_136 rfl ?_
            refine zw_iconst (v := 2) (pc' := 140) K dX2_tell_139 (by decide) rfl ?_
            refine zw_iload_n (x := (nI jf)) (pc' := 141) K dX2_tell_140 rfl rfl ?_
            refine zw_imul (pc' := 142) K dX2_tell_141 rfl ?_
            refine zw_iload_n (x := b) (pc' := 143) K dX2_tell_142 rfl rfl ?_
            refine zw_aload_n (v := .ref (ad 100 0 0)) (pc' := 144) K dX2_tell_143 rfl rfl rfl ?_
            refine zg_X2_33 (v := .ref (ad 108 0 0)) (pc' := 147) K hW6.mo rfl dX2_tell_144 rfl ?_
            refine zw_iload_n (x := (nI jf)) (pc' := 148) K dX2_tell_147 rfl rfl ?_
            refine zn_iald (j := jf) (v := (zv μ 7 jf)) (pc' := 149) K hW6.m7 rfl (by have := hI.g; omega) (by simp [zsett_v, zset_v]) dX2_tell_148 rfl ?_
            refine zw_icmp_ne (tgt := 156) (pc' := 152) K dX2_tell_149 (by decide) rfl (fun c149 => ?_) (fun c149 => ?_)
            · refine zw_iconst (v := 1) (pc' := 157) K dX2_tell_156 (by decide) rfl ?_
              refine zw_iadd (pc' := 158) K dX2_tell_157 rfl ?_
              refine zw_dup2 (pc' := 159) K dX2_tell_158 rfl rfl rfl ?_
              refine zn_iald (j := 2 * jf + 1) (v := (zv μ 10 (2 * jf + 1))) (pc' := 160) K hW6.m10 (zx_21 jf) (by have := hI.g; omega) (by simp [zsett_v, zset_v]) dX2_tell_159 rfl ?_
              refine zw_iconst (v := 1) (pc' := 161) K dX2_tell_160 (by decide) rfl ?_
              refine zw_iadd (pc' := 162) K dX2_tell_161 rfl ?_
              refine zn_iast (j := 2 * jf + 1) (pc' := 163) K hW6.m10 (zx_21 jf) (by have := hI.g; omega) dX2_tell_162 rfl ?_
              refine zw_nmM (fun M7 eM7 => ?_)
              have hW8 : zW (zw_Xw X) M7 ad σ (zset (zset (zsett μ jf (ztd μ jf ++ [jt])) 9 jf nf) 10 (2 * jf + 1) ((zv μ 10 (2 * jf + 1)) + 1)) tc o := by rw [eM7]; exact hW6.p10
              refine zw_iload (x := 1) (pc' := 165) K dX2_tell_163 rfl rfl ?_
              exact zw_zret K hE rfl dX2_tell_165 ⟨Nat.le_of_ble_eq_true rfl, Nat.le_of_ble_eq_true rfl⟩ (⟨by have hf : zfresh μ (nI jf) b (nI jt) = true := (by simp only [zb_1, decide_eq_true_eq] at c69; simp only [decide_eq_false_iff_not] at c82; simp [zfresh, xf, xt, c69, c82, ← htc, c55]); simp [zop_tell, hf, zb], by have hf : zfresh μ (nI jf) b (nI jt) = true := (by simp only [zb_1, decide_eq_true_eq] at c69; simp only [decide_eq_false_iff_not] at c82; simp [zfresh, xf, xt, c69, c82, ← htc, c55]); rw [show (zop_tell μ (nI jf) b (nI jt)).2.2 = zset (zset (zsett μ jf (ztd μ jf ++ [jt])) 9 jf nf) 10 (2 * jf + 1) ((zv μ 10 (2 * jf + 1)) + 1) from by (have hs : zside μ jf b = 2 * jf + 1 := (by unfold zside; rw [if_neg c149])); simp only [zop_tell, hf, if_true, xf, xt]; unfold ztold; rw [hs, ← hnf], show (zop_tell μ (nI jf) b (nI jt)).2.1 = tc from htc.symm]; exact hW8⟩)
            · refine zw_iconst (v := 0) (pc' := 153) K dX2_tell_152 (by decide) rfl ?_
              refine zw_goto (tgt := 157) K dX2_tell_153 (by decide) ?_
              refine zw_iadd (pc' := 158) K dX2_tell_157 rfl ?_
              refine zw_dup2 (pc' := 159) K dX2_tell_158 rfl rfl rfl ?_
              refine zn_iald (j := 2 * jf) (v := (zv μ 10 (2 * jf))) (pc' := 160) K hW6.m10 (by rw [zx_2]; simp) (by have := hI.g; omega) (by simp [zsett_v, zset_v]) dX2_tell_159 rfl ?_
              refine zw_iconst (v := 1) (pc' := 161) K dX2_tell_160 (by decide) rfl ?_
              refine zw_iadd (pc' := 162) K dX2_tell_161 rfl ?_
              refine zn_iast (j := 2 * jf) (pc' := 163) K hW6.m10 (by rw [zx_2]; simp) (by have := hI.g; omega) dX2_tell_162 rfl ?_
              refine zw_nmM (fun M9 eM9 => ?_)
              have hW10 : zW (zw_Xw X) M9 ad σ (zset (zset (zsett μ jf (ztd μ jf ++ [jt])) 9 jf nf) 10 (2 * jf) ((zv μ 10 (2 * jf)) + 1)) tc o := by rw [eM9]; exact hW6.p10
              refine zw_iload (x := 1) (pc' := 165) K dX2_tell_163 rfl rfl ?_
              exact zw_zret K hE rfl dX2_tell_165 ⟨Nat.le_of_ble_eq_true rfl, Nat.le_of_ble_eq_true rfl⟩ (⟨by have hf : zfresh μ (nI jf) b (nI jt) = true := (by simp only [zb_1, decide_eq_true_eq] at c69; simp only [decide_eq_false_iff_not] at c82; simp [zfresh, xf, xt, c69, c82, ← htc, c55]); simp [zop_tell, hf, zb], by have hf : zfresh μ (nI jf) b (nI jt) = true := (by simp only [zb_1, decide_eq_true_eq] at c69; simp only [decide_eq_false_iff_not] at c82; simp [zfresh, xf, xt, c69, c82, ← htc, c55]); rw [show (zop_tell μ (nI jf) b (nI jt)).2.2 = zset (zset (zsett μ jf (ztd μ jf ++ [jt])) 9 jf nf) 10 (2 * jf) ((zv μ 10 (2 * jf)) + 1) from by (have hs : zside μ jf b = 2 * jf := (by unfold zside; rw [if_pos c149]; rfl)); simp only [zop_tell, hf, if_true, xf, xt]; unfold ztold; rw [hs, ← hnf], show (zop_tell μ (nI jf) b (nI jt)).2.1 = tc from htc.symm]; exact hW10⟩)
          refine zw_aload_n (v := .ref (ad 100 0 0)) (pc' := 115) K dX2_tell_114 rfl rfl rfl ?_
          refine zg_X2_45 (v := .ref (ad 110 0 0)) (pc' := 118) K hW4.mo rfl dX2_tell_115 rfl ?_
          refine zw_iload_n (x := (nI jf)) (pc' := 119) K dX2_tell_118 rfl rfl ?_
          refine zn_iald (j := jf) (v := (zv μ 9 jf)) (pc' := 120) K hW4.m9 rfl (by have := hI.g; omega) rfl dX2_tell_119 rfl ?_
          refine zw_iconst (v := (-1)) (pc' := 121) K dX2_tell_120 (by decide) rfl ?_
          refine zw_icmp_ne (tgt := 128) (pc' := 124) K dX2_tell_121 (by decide) rfl (fun c121 => ?_) (fun c121 => ?_)
          · refine zw_aload_n (v := .ref (ad 100 0 0)) (pc' := 129) K dX2_tell_128 rfl rfl rfl ?_
            refine zg_X2_45 (v := .ref (ad 110 0 0)) (pc' := 132) K hW4.mo rfl dX2_tell_129 rfl ?_
            refine zw_iload_n (x := (nI jf)) (pc' := 133) K dX2_tell_132 rfl rfl ?_
            refine zn_iald (j := jf) (v := (zv μ 9 jf)) (pc' := 134) K hW4.m9 rfl (by have := hI.g; omega) rfl dX2_tell_133 rfl ?_
            exact J134 (zv μ 9 jf) (by simp [c121])
          · refine zw_iload_n (x := b) (pc' := 125) K dX2_tell_124 rfl rfl ?_
            refine zw_goto (tgt := 134) K dX2_tell_125 (by decide) ?_
            exact J134 b (by simp [c121])
  refine zw_aload_n (v := .ref (ad 100 0 0)) (pc' := 2) K dX2_tell_1 rfl rfl rfl ?_
  refine zw_iload_n (x := f) (pc' := 3) K dX2_tell_2 rfl rfl ?_
  refine zc_X2_112 (rest := [.ref (ad 100 0 0)]) (c' := 0) (n' := 0) (pc' := 6) K (ct_X2_isFile hl hW f (by have := hI.g; omega)) hW.mo rfl rfl dX2_tell_3 rfl (Nat.le_of_ble_eq_true rfl) ⟨Nat.le_of_ble_eq_true rfl, Nat.le_of_ble_eq_true rfl⟩ ⟨Nat.le_of_ble_eq_true rfl, Nat.le_of_ble_eq_true rfl, Nat.le_of_ble_eq_true rfl, Nat.le_of_ble_eq_true rfl⟩ (zw_kp ?_) zw_kn
  refine zw_if_eq (tgt := 17) (pc' := 9) K dX2_tell_6 (by decide) rfl (fun c6 => ?_) (fun c6 => ?_)
  · have c6 := zb_0.mp c6
    refine zw_iconst (v := 1) (pc' := 18) K dX2_tell_17 (by decide) rfl ?_
    refine zw_goto (tgt := 48) K dX2_tell_18 (by decide) ?_
    exact J48 1 (by simp [ztellc, c6])
  · have c6 := zb_nz.mp c6
    refine zw_aload_n (v := .ref (ad 100 0 0)) (pc' := 10) K dX2_tell_9 rfl rfl rfl ?_
    refine zw_iload_n (x := t) (pc' := 11) K dX2_tell_10 rfl rfl ?_
    refine zc_X2_85 (rest := [.ref (ad 100 0 0)]) (c' := 0) (n' := 0) (pc' := 14) K (ct_X2_isTender hl hW t hI.n) hW.mo rfl rfl dX2_tell_11 rfl (Nat.le_of_ble_eq_true rfl) ⟨Nat.le_of_ble_eq_true rfl, Nat.le_of_ble_eq_true rfl⟩ ⟨Nat.le_of_ble_eq_true rfl, Nat.le_of_ble_eq_true rfl, Nat.le_of_ble_eq_true rfl, Nat.le_of_ble_eq_true rfl⟩ (zw_kp ?_) zw_kn
    refine zw_if_ne (tgt := 21) (pc' := 17) K dX2_tell_14 (by decide) rfl (fun c14 => ?_) (fun c14 => ?_)
    · have c14 := zb_nz.mp c14
      obtain ⟨jf, hjf, ef⟩ := zin_of c6 (by have := hI.g; omega)
      have xf : zx f = jf := by rw [ef]; exact zx_n (by have := hI.g; omega)
      refine zw_aload_n (v := .ref (ad 100 0 0)) (pc' := 22) K dX2_tell_21 rfl rfl rfl ?_
      refine zw_iload_n (x := f) (pc' := 23) K dX2_tell_22 rfl rfl ?_
      refine zw_iload_n (x := b) (pc' := 24) K dX2_tell_23 rfl rfl ?_
      refine zc_X2_118 (rest := [.ref (ad 100 0 0)]) (c' := 0) (n' := 0) (pc' := 27) K ((by have z := ct_X2_isOf hl hW jf (by have := hI.g; omega) b; rw [← ef] at z; exact z)) hW.mo rfl rfl dX2_tell_24 rfl (Nat.le_of_ble_eq_true rfl) ⟨Nat.le_of_ble_eq_true rfl, Nat.le_of_ble_eq_true rfl⟩ ⟨Nat.le_of_ble_eq_true rfl, Nat.le_of_ble_eq_true rfl, Nat.le_of_ble_eq_true rfl, Nat.le_of_ble_eq_true rfl⟩ (zw_kp ?_) zw_kn
      refine zw_if_ne (tgt := 34) (pc' := 30) K dX2_tell_27 (by decide) rfl (fun c27 => ?_) (fun c27 => ?_)
      · have c27 := zb_nz.mp c27
        refine zw_aload_n (v := .ref (ad 100 0 0)) (pc' := 35) K dX2_tell_34 rfl rfl rfl ?_
        refine zg_X2_54 (v := .ref (ad 113 0 0)) (pc' := 38) K hW.mo rfl dX2_tell_35 rfl ?_
        refine zw_iload_n (x := f) (pc' := 39) K dX2_tell_38 rfl rfl ?_
        refine zn_zald (j := jf) (v := ((zv μ 12) jf)) (pc' := 40) K hW.m12 ef (by have := hI.g; omega) rfl dX2_tell_39 rfl ?_
        refine zw_if_eq (tgt := 47) (pc' := 43) K dX2_tell_40 (by decide) rfl (fun c40 => ?_) (fun c40 => ?_)
        · refine zw_iconst (v := 0) (pc' := 48) K dX2_tell_47 (by decide) rfl ?_
          exact J48 0 (by simp [ztellc, c6, c14, xf, c27, c40])
        · refine zw_iconst (v := 3) (pc' := 44) K dX2_tell_43 (by decide) rfl ?_
          refine zw_goto (tgt := 48) K dX2_tell_44 (by decide) ?_
          exact J48 3 (by simp [ztellc, c6, c14, xf, c27, c40])
      · have c27 := zb_0.mp c27
        refine zw_iconst (v := 2) (pc' := 31) K dX2_tell_30 (by decide) rfl ?_
        refine zw_goto (tgt := 48) K dX2_tell_31 (by decide) ?_
        exact J48 2 (by simp [ztellc, c6, c14, xf, c27])
    · have c14 := zb_0.mp c14
      refine zw_iconst (v := 1) (pc' := 18) K dX2_tell_17 (by decide) rfl ?_
      refine zw_goto (tgt := 48) K dX2_tell_18 (by decide) ?_
      exact J48 1 (by simp [ztellc, c6, c14])
