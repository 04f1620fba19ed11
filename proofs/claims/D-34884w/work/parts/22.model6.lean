/-! CartelWatchModel: file -/
set_option maxRecDepth 100000
theorem zsetm_self {μ : zS} {f : Nat} {l : List Nat} (h : zmt μ f = l) : zsetm μ f l = μ := by
  obtain ⟨a, b, c, d, e⟩ := μ
  unfold zsetm
  congr 4
  funext f'
  by_cases q : f' = f
  · subst q; rw [if_pos rfl]; exact h.symm
  · rw [if_neg q]
set_option maxHeartbeats 2000000 in
theorem ct_X2_file {w : zw_W} {l : Launch} (hl : l.stackTraces = false) {M : zw_M} {ad : Nat → Nat → Nat → Nat} {σ μ : zS} {th : Int32} {o : Int64} (hW : zW w M ad σ μ th o) (hI : zI μ) (a b : Int32) : zw_C w l yX2_file cX2_file 7 (Option.some Jvm.ClassFile.FieldType.int) (zr 5 0 0) [.ref (ad 100 0 0), .int a, .int b] M (zw_pi fun r M1 => r = (zop_file μ a b).1 ∧ zW w M1 ad σ (zop_file μ a b).2.2 (zop_file μ a b).2.1 o) zw_no := by
  refine zw_enter RX2 rfl (by decide) hl (by simp [Value.category]) (Nat.le_of_ble_eq_true rfl) (fun X hXl hXw K hE htab hcon => ?_)
  subst hXl; subst hXw
  show zw_Z X _ 0 0 0 [some (.ref (ad 100 0 0)), some (.int a), some (.int b), none, none, none, none] []
  refine zw_aload_n (v := .ref (ad 100 0 0)) (pc' := 1) K dX2_file_0 rfl rfl rfl ?_
  refine zw_iconst (v := 0) (pc' := 2) K dX2_file_1 (by decide) rfl ?_
  refine zp_X2_60 (v := .int 0) (pc' := 5) K hW.mo rfl rfl (by simp [zmob]) dX2_file_2 rfl ?_
  refine zw_nmM (fun M1 eM1 => ?_)
  have hW2 : zW (zw_Xw X) M1 ad σ μ 0 o := by rw [eM1]; exact hW.pth
  refine zw_iload_n (x := a) (pc' := 6) K dX2_file_5 rfl rfl ?_
  refine zw_iload_n (x := b) (pc' := 7) K dX2_file_6 rfl rfl ?_
  refine zc_X2_105 (rest := []) (c' := 0) (n' := 0) (pc' := 10) K (ct_X2_isPair hl M1 a b) rfl rfl dX2_file_7 rfl (Nat.le_of_ble_eq_true rfl) ⟨Nat.le_of_ble_eq_true rfl, Nat.le_of_ble_eq_true rfl⟩ ⟨Nat.le_of_ble_eq_true rfl, Nat.le_of_ble_eq_true rfl, Nat.le_of_ble_eq_true rfl, Nat.le_of_ble_eq_true rfl⟩ (zw_kp ?_) zw_kn
  refine zw_if_ne (tgt := 19) (pc' := 13) K dX2_file_10 (by decide) rfl (fun c10 => ?_) (fun c10 => ?_)
  · have c10 := zb_nz.mp c10
    obtain ⟨ja, jb, hja, hjb, rfl, rfl, hab⟩ := zpair_of c10
    have hne : ¬ nI ja = nI jb := fun q => hab ((nI_eq (by omega) (by omega)).mp q)
    have J42 : ∀ (lo : Int32) (hi : Int32), (lo = zs_min (nI ja) (nI jb)) → (hi = zs_max (nI ja) (nI jb)) → zw_Z X M1 0 0 42 [some (.ref (ad 100 0 0)), some (.int (nI ja)), some (.int (nI jb)), some (.int lo), some (.int hi), none, none] [] := by
      intro lo hi hlo hhi
      refine zw_iconst (v := 0) (pc' := 43) K dX2_file_42 (by decide) rfl ?_
      refine zw_istore (lv' := [some (.ref (ad 100 0 0)), some (.int (nI ja)), some (.int (nI jb)), some (.int lo), some (.int hi), some (.int 0), none]) (pc' := 45) K dX2_file_43 (by decide) rfl rfl ?_
      refine zw_iconst (v := 0) (pc' := 46) K dX2_file_45 (by decide) rfl ?_
      refine zw_istore (lv' := [some (.ref (ad 100 0 0)), some (.int (nI ja)), some (.int (nI jb)), some (.int lo), some (.int hi), some (.int 0), some (.int 0)]) (pc' := 48) K dX2_file_46 (by decide) rfl rfl ?_
      have L48 : ∀ f : Nat, f ≤ zg μ → ∀ (xf : Int32) (acc : Int32), xf = nI f → (acc = zb (zf (zhadF μ lo hi) f false)) → zw_Z X M1 0 0 48 [some (.ref (ad 100 0 0)), some (.int (nI ja)), some (.int (nI jb)), some (.int lo), some (.int hi), some (.int acc), some (.int xf)] [] := by
        refine zl_up (fun f hi48 ih48 => ?_)
        intro xf acc hxf hacc
        refine zw_iload (x := xf) (pc' := 50) K dX2_file_48 rfl rfl ?_
        refine zw_aload_n (v := .ref (ad 100 0 0)) (pc' := 51) K dX2_file_50 rfl rfl rfl ?_
        refine zg_X2_70 (v := .int (nI (zg μ))) (pc' := 54) K hW2.mo rfl dX2_file_51 rfl ?_
        refine zw_icmp_ge (tgt := 98) (pc' := 57) K dX2_file_54 (by decide) rfl (fun c54 => ?_) (fun c54 => ?_)
        · have hend48 : f = zg μ := zi_ge hxf rfl hi48 (by have := hI.g; omega) c54
          refine zw_iload (x := acc) (pc' := 100) K dX2_file_98 rfl rfl ?_
          refine zw_if_ne (tgt := 125) (pc' := 103) K dX2_file_100 (by decide) rfl (fun c100 => ?_) (fun c100 => ?_)
          · have hH : zhad μ (zs_min (nI ja) (nI jb)) (zs_max (nI ja) (nI jb)) = true := by rw [← hlo, ← hhi]; unfold zhad; rw [← hend48]; exact zb_nz.mp (by rw [← hacc]; exact c100)
            refine zw_aload_n (v := .ref (ad 100 0 0)) (pc' := 126) K dX2_file_125 rfl rfl rfl ?_
            refine zw_iconst (v := 2) (pc' := 127) K dX2_file_126 (by decide) rfl ?_
            refine zc_X2_77 (rest := []) (c' := 0) (n' := 0) (pc' := 130) K (ct_X2_fails hl hW2 2) hW2.mo rfl rfl dX2_file_127 rfl (Nat.le_of_ble_eq_true rfl) ⟨Nat.le_of_ble_eq_true rfl, Nat.le_of_ble_eq_true rfl⟩ ⟨Nat.le_of_ble_eq_true rfl, Nat.le_of_ble_eq_true rfl, Nat.le_of_ble_eq_true rfl, Nat.le_of_ble_eq_true rfl⟩ (zw_ki fun r M1 h => ?_) zw_kn
            obtain ⟨rfl, hW3⟩ := h
            exact zw_iret K hE dX2_file_130 ⟨Nat.le_of_ble_eq_true rfl, Nat.le_of_ble_eq_true rfl⟩ (by rw [show zop_file μ (nI ja) (nI jb) = (0, 2, μ) from by simp [zop_file, c10, hH]]; exact ⟨rfl, hW3⟩)
          · have hH : zhad μ (zs_min (nI ja) (nI jb)) (zs_max (nI ja) (nI jb)) = false := by rw [← hlo, ← hhi]; unfold zhad; rw [← hend48]; exact zb_0.mp (by rw [← hacc]; exact c100)
            refine zw_aload_n (v := .ref (ad 100 0 0)) (pc' := 104) K dX2_file_103 rfl rfl rfl ?_
            refine zg_X2_70 (v := .int (nI (zg μ))) (pc' := 107) K hW2.mo rfl dX2_file_104 rfl ?_
            refine zw_bipush (v := 20) (pc' := 109) K dX2_file_107 (by decide) rfl ?_
            refine zw_icmp_eq (tgt := 125) (pc' := 112) K dX2_file_109 (by decide) rfl (fun c109 => ?_) (fun c109 => ?_)
            · have hg20 : zg μ = 20 := (nI_eq (b := 20) (by have := hI.g; omega) (by decide)).mp c109
              refine zw_aload_n (v := .ref (ad 100 0 0)) (pc' := 126) K dX2_file_125 rfl rfl rfl ?_
              refine zw_iconst (v := 2) (pc' := 127) K dX2_file_126 (by decide) rfl ?_
              refine zc_X2_77 (rest := []) (c' := 0) (n' := 0) (pc' := 130) K (ct_X2_fails hl hW2 2) hW2.mo rfl rfl dX2_file_127 rfl (Nat.le_of_ble_eq_true rfl) ⟨Nat.le_of_ble_eq_true rfl, Nat.le_of_ble_eq_true rfl⟩ ⟨Nat.le_of_ble_eq_true rfl, Nat.le_of_ble_eq_true rfl, Nat.le_of_ble_eq_true rfl, Nat.le_of_ble_eq_true rfl⟩ (zw_ki fun r M1 h => ?_) zw_kn
              obtain ⟨rfl, hW4⟩ := h
              exact zw_iret K hE dX2_file_130 ⟨Nat.le_of_ble_eq_true rfl, Nat.le_of_ble_eq_true rfl⟩ (by rw [show zop_file μ (nI ja) (nI jb) = (0, 2, μ) from by simp [zop_file, c10, hH, hg20]]; exact ⟨rfl, hW4⟩)
            · have hg20 : ¬ zg μ = 20 := fun q => c109 (by rw [q]; rfl)
              refine zw_aload_n (v := .ref (ad 100 0 0)) (pc' := 113) K dX2_file_112 rfl rfl rfl ?_
              refine zw_iload_n (x := nI ja) (pc' := 114) K dX2_file_113 rfl rfl ?_
              refine zw_iload_n (x := nI jb) (pc' := 115) K dX2_file_114 rfl rfl ?_
              refine zc_X2_108 (rest := []) (c' := 0) (n' := 0) (pc' := 118) K (ct_X2_suspicionOf hl hW2 hI.j ja jb hja hjb) hW2.mo rfl rfl dX2_file_115 rfl (Nat.le_of_ble_eq_true rfl) ⟨Nat.le_of_ble_eq_true rfl, Nat.le_of_ble_eq_true rfl⟩ ⟨Nat.le_of_ble_eq_true rfl, Nat.le_of_ble_eq_true rfl, Nat.le_of_ble_eq_true rfl, Nat.le_of_ble_eq_true rfl⟩ (zw_kp ?_) zw_kn
              refine zw_aload_n (v := .ref (ad 100 0 0)) (pc' := 119) K dX2_file_118 rfl rfl rfl ?_
              refine zg_X2_29 (v := .int (zv μ 6 0)) (pc' := 122) K hW2.mo rfl dX2_file_119 rfl ?_
              refine zw_icmp_ge (tgt := 131) (pc' := 125) K dX2_file_122 (by decide) rfl (fun c122 => ?_) (fun c122 => ?_)
              · refine zw_aload_n (v := .ref (ad 100 0 0)) (pc' := 132) K dX2_file_131 rfl rfl rfl ?_
                refine zg_X2_33 (v := .ref (ad 108 0 0)) (pc' := 135) K hW2.mo rfl dX2_file_132 rfl ?_
                refine zw_aload_n (v := .ref (ad 100 0 0)) (pc' := 136) K dX2_file_135 rfl rfl rfl ?_
                refine zg_X2_70 (v := .int (nI (zg μ))) (pc' := 139) K hW2.mo rfl dX2_file_136 rfl ?_
                refine zw_iload_n (x := lo) (pc' := 140) K dX2_file_139 rfl rfl ?_
                refine zn_iast (j := zg μ) (pc' := 141) K hW2.m7 rfl (by have := hI.g; omega) dX2_file_140 rfl ?_
                refine zw_nmM (fun M5 eM5 => ?_)
                have hW6 : zW (zw_Xw X) M5 ad σ (zset μ 7 (zg μ) lo) 0 o := by rw [eM5]; exact hW2.p7
                refine zw_aload_n (v := .ref (ad 100 0 0)) (pc' := 142) K dX2_file_141 rfl rfl rfl ?_
                refine zg_X2_36 (v := .ref (ad 109 0 0)) (pc' := 145) K hW6.mo rfl dX2_file_142 rfl ?_
                refine zw_aload_n (v := .ref (ad 100 0 0)) (pc' := 146) K dX2_file_145 rfl rfl rfl ?_
                refine zg_X2_70 (v := .int (nI (zg μ))) (pc' := 149) K hW6.mo rfl dX2_file_146 rfl ?_
                refine zw_iload (x := hi) (pc' := 151) K dX2_file_149 rfl rfl ?_
                refine zn_iast (j := zg μ) (pc' := 152) K hW6.m8 rfl (by have := hI.g; omega) dX2_file_151 rfl ?_
                refine zw_nmM (fun M7 eM7 => ?_)
                have hW8 : zW (zw_Xw X) M7 ad σ (zset (zset μ 7 (zg μ) lo) 8 (zg μ) hi) 0 o := by rw [eM7]; exact hW6.p8
                refine zw_aload_n (v := .ref (ad 100 0 0)) (pc' := 153) K dX2_file_152 rfl rfl rfl ?_
                refine zg_X2_45 (v := .ref (ad 110 0 0)) (pc' := 156) K hW8.mo rfl dX2_file_153 rfl ?_
                refine zw_aload_n (v := .ref (ad 100 0 0)) (pc' := 157) K dX2_file_156 rfl rfl rfl ?_
                refine zg_X2_70 (v := .int (nI (zg μ))) (pc' := 160) K hW8.mo rfl dX2_file_157 rfl ?_
                refine zw_iconst (v := (-1)) (pc' := 161) K dX2_file_160 (by decide) rfl ?_
                refine zn_iast (j := zg μ) (pc' := 162) K hW8.m9 rfl (by have := hI.g; omega) dX2_file_161 rfl ?_
                refine zw_nmM (fun M9 eM9 => ?_)
                have hW10 : zW (zw_Xw X) M9 ad σ (zset (zset (zset μ 7 (zg μ) lo) 8 (zg μ) hi) 9 (zg μ) (-1)) 0 o := by rw [eM9]; exact hW8.p9
                obtain ⟨μ3, eμ3⟩ : ∃ z, z = zset (zset (zset μ 7 (zg μ) lo) 8 (zg μ) hi) 9 (zg μ) (-1) := ⟨_, rfl⟩
                have hW3 : zW (zw_Xw X) M9 ad σ μ3 0 o := by rw [eμ3]; exact hW10
                have hn3 : zn μ3 = zn μ := by rw [eμ3]; rfl
                have hg3 : zg μ3 = zg μ := by rw [eμ3]; rfl
                have hv3 : ∀ v i, v < 6 → zv μ3 v i = zv μ v i := fun v i hv => by rw [eμ3, zset_v, if_neg (by omega), zset_v, if_neg (by omega), zset_v, if_neg (by omega)]
                have hJ3 : zJ μ3 := by rw [eμ3]; exact ((hI.j.set (by decide)).set (by decide)).set (by decide)
                have hm3 : zmt μ3 (zg μ3) = [] := by rw [hg3, eμ3]; exact (hI.nf (Nat.le_refl _)).1
                have hsg : ∀ i L, zsign (zsetm μ3 (zg μ3) L) i (nI ja) (nI jb) = zsign μ i (nI ja) (nI jb) := fun i L => zsign_congr (fun v i hv => hv3 v i hv) i _ _
                have hG3 : zg μ3 < 20 := by have := hI.g; omega
                refine zw_iconst (v := 0) (pc' := 163) K dX2_file_162 (by decide) rfl ?_
                refine zw_istore (lv' := [some (.ref (ad 100 0 0)), some (.int (nI ja)), some (.int (nI jb)), some (.int lo), some (.int hi), some (.int acc), some (.int 0)]) (pc' := 165) K dX2_file_163 (by decide) rfl rfl ?_
                have L165 : ∀ i : Nat, i ≤ zn μ3 → ∀ (xi : Int32) (Mk : zw_M) (L : List Nat), xi = nI i → (zW (zw_Xw X) Mk ad σ (zsetm μ3 (zg μ3) L) 0 o) → (L = zf (zmlF μ (nI ja) (nI jb)) i []) → zw_Z X Mk 0 0 165 [some (.ref (ad 100 0 0)), some (.int (nI ja)), some (.int (nI jb)), some (.int lo), some (.int hi), none, some (.int xi)] [] := by
                  refine zl_up (fun i hi165 ih165 => ?_)
                  intro xi Mk L hxi hWk hL
                  refine zw_iload (x := xi) (pc' := 167) K dX2_file_165 rfl rfl ?_
                  refine zw_aload_n (v := .ref (ad 100 0 0)) (pc' := 168) K dX2_file_167 rfl rfl rfl ?_
                  refine zg_X2_67 (v := .int (nI (zn μ3))) (pc' := 171) K hWk.mo rfl dX2_file_168 rfl ?_
                  refine zw_icmp_ge (tgt := 211) (pc' := 174) K dX2_file_171 (by decide) rfl (fun c171 => ?_) (fun c171 => ?_)
                  · have hend165 : i = zn μ3 := zi_ge hxi rfl hi165 (by have := hI.n; omega) c171
                    refine zw_aload_n (v := .ref (ad 100 0 0)) (pc' := 212) K dX2_file_211 rfl rfl rfl ?_
                    refine zw_dup (pc' := 213) K dX2_file_212 rfl rfl ?_
                    refine zg_X2_70 (v := .int (nI (zg μ3))) (pc' := 216) K hWk.mo rfl dX2_file_213 rfl ?_
                    refine zw_iconst (v := 1) (pc' := 217) K dX2_file_216 (by decide) rfl ?_
                    refine zw_iadd (pc' := 218) K dX2_file_217 rfl ?_
                    refine zp_X2_70 (v := .int ((nI (zg μ3)) + 1)) (pc' := 221) K hWk.mo rfl rfl (by simp [zmob]) dX2_file_218 rfl ?_
                    refine zw_nmM (fun M11 eM11 => ?_)
                    have hW12 : zW (zw_Xw X) M11 ad σ (zsetg (zsetm μ3 (zg μ3) L) (zg μ3 + 1)) 0 o := by rw [eM11, nI_1]; exact hWk.pg
                    refine zw_aload_n (v := .ref (ad 100 0 0)) (pc' := 222) K dX2_file_221 rfl rfl rfl ?_
                    refine zg_X2_70 (v := .int (nI (zg μ3 + 1))) (pc' := 225) K hW12.mo rfl dX2_file_222 rfl ?_
                    refine zw_iconst (v := 1) (pc' := 226) K dX2_file_225 (by decide) rfl ?_
                    refine zw_isub (pc' := 227) K dX2_file_226 rfl ?_
                    exact zw_iret K hE dX2_file_227 ⟨Nat.le_of_ble_eq_true rfl, Nat.le_of_ble_eq_true rfl⟩ (by rw [show zop_file μ (nI ja) (nI jb) = ((nI (zg μ3 + 1)) - 1, 0, zsetg (zsetm μ3 (zg μ3) L) (zg μ3 + 1)) from by rw [nI_pred, hg3, show L = zml μ (nI ja) (nI jb) from by rw [hL, hend165, hn3]; rfl, eμ3]; unfold zop_file; rw [if_neg (by simp [c10]), if_neg (by simp [hH, hg20, Int32.not_lt.mpr c122]), ← hlo, ← hhi]]; exact ⟨rfl, hW12⟩)
                  · have hlt165 : i < zn μ3 := zi_lt hxi rfl hi165 (by have := hI.n; omega) c171
                    subst hxi
                    refine zw_aload_n (v := .ref (ad 100 0 0)) (pc' := 175) K dX2_file_174 rfl rfl rfl ?_
                    refine zg_X2_39 (v := .ref (ad 115 0 0)) (pc' := 178) K hWk.mo rfl dX2_file_175 rfl ?_
                    refine zw_aload_n (v := .ref (ad 100 0 0)) (pc' := 179) K dX2_file_178 rfl rfl rfl ?_
                    refine zg_X2_70 (v := .int (nI (zg μ3))) (pc' := 182) K hWk.mo rfl dX2_file_179 rfl ?_
                    refine zw_dup2 (pc' := 183) K dX2_file_182 rfl rfl rfl ?_
                    refine zn_iald (j := zg μ3) (v := (zbits L)) (pc' := 184) K hWk.m14 rfl hG3 (by rw [zsetm_m, if_pos rfl]) dX2_file_183 rfl ?_
                    refine zw_aload_n (v := .ref (ad 100 0 0)) (pc' := 185) K dX2_file_184 rfl rfl rfl ?_
                    refine zw_iload (x := (nI i)) (pc' := 187) K dX2_file_185 rfl rfl ?_
                    refine zw_iload_n (x := nI ja) (pc' := 188) K dX2_file_187 rfl rfl ?_
                    refine zw_iload_n (x := nI jb) (pc' := 189) K dX2_file_188 rfl rfl ?_
                    refine zc_X2_101 (rest := [.int (zbits L), .int (nI (zg μ3)), .ref (ad 115 0 0)]) (c' := 0) (n' := 0) (pc' := 192) K ((by have z := ct_X2_signOf hl hWk hJ3.setm i ja jb hlt165 hja hjb; rw [hsg] at z; exact z)) hWk.mo rfl rfl dX2_file_189 rfl (Nat.le_of_ble_eq_true rfl) ⟨Nat.le_of_ble_eq_true rfl, Nat.le_of_ble_eq_true rfl⟩ ⟨Nat.le_of_ble_eq_true rfl, Nat.le_of_ble_eq_true rfl, Nat.le_of_ble_eq_true rfl, Nat.le_of_ble_eq_true rfl⟩ (zw_kp ?_) zw_kn
                    refine zw_if_le (tgt := 202) (pc' := 195) K dX2_file_192 (by decide) rfl (fun c192 => ?_) (fun c192 => ?_)
                    · refine zw_iconst (v := 0) (pc' := 203) K dX2_file_202 (by decide) rfl ?_
                      refine zw_ior (pc' := 204) K dX2_file_203 rfl ?_
                      refine zn_iast (j := zg μ3) (pc' := 205) K hWk.m14 rfl hG3 dX2_file_204 rfl ?_
                      refine zw_nmM (fun M13 eM13 => ?_)
                      have hW14 : zW (zw_Xw X) M13 ad σ (zsetm μ3 (zg μ3) L) 0 o := by rw [eM13]; exact (by have z := hWk.p14 (f := zg μ3) (l := L) (x := zbits L ||| 0) (by simp); rw [zsetm_2] at z; exact z)
                      refine zw_iinc (x := (nI i)) (lv' := [some (.ref (ad 100 0 0)), some (.int (nI ja)), some (.int (nI jb)), some (.int lo), some (.int hi), none, some (.int ((nI i) + 1))]) (pc' := 208) K dX2_file_205 rfl (by decide) rfl rfl ?_
                      refine zw_goto (tgt := 165) K dX2_file_208 (by decide) ?_
                      exact ih165 hlt165 ((nI i) + 1) M13 L (nI_1 i) hW14 (by rw [zf_s, ← hL]; simp [zmlF, Int32.not_lt.mpr c192])
                    · refine zw_iconst (v := 1) (pc' := 196) K dX2_file_195 (by decide) rfl ?_
                      refine zw_iload (x := (nI i)) (pc' := 198) K dX2_file_196 rfl rfl ?_
                      refine zw_ishl (pc' := 199) K dX2_file_198 rfl ?_
                      refine zw_goto (tgt := 203) K dX2_file_199 (by decide) ?_
                      refine zw_ior (pc' := 204) K dX2_file_203 rfl ?_
                      refine zn_iast (j := zg μ3) (pc' := 205) K hWk.m14 rfl hG3 dX2_file_204 rfl ?_
                      refine zw_nmM (fun M15 eM15 => ?_)
                      have hW16 : zW (zw_Xw X) M15 ad σ (zsetm μ3 (zg μ3) (L ++ [i])) 0 o := by rw [eM15]; exact (by have z := hWk.p14 (f := zg μ3) (l := L ++ [i]) (x := (zbits L) ||| (1 <<< ((nI i) &&& 31))) (by rw [zbits_app]; rfl); rw [zsetm_2] at z; exact z)
                      refine zw_iinc (x := (nI i)) (lv' := [some (.ref (ad 100 0 0)), some (.int (nI ja)), some (.int (nI jb)), some (.int lo), some (.int hi), none, some (.int ((nI i) + 1))]) (pc' := 208) K dX2_file_205 rfl (by decide) rfl rfl ?_
                      refine zw_goto (tgt := 165) K dX2_file_208 (by decide) ?_
                      exact ih165 hlt165 ((nI i) + 1) M15 (L ++ [i]) (nI_1 i) hW16 (by rw [zf_s, ← hL]; simp [zmlF, Int32.not_le.mp c192])
                refine zw_weakL (lv' := [some (.ref (ad 100 0 0)), some (.int (nI ja)), some (.int (nI jb)), some (.int lo), some (.int hi), none, some (.int 0)]) (by simp [zw_le]) ?_
                exact L165 0 (Nat.zero_le _) 0 M9 [] rfl (by rw [zsetm_self hm3]; exact hW3) rfl
              · refine zw_aload_n (v := .ref (ad 100 0 0)) (pc' := 126) K dX2_file_125 rfl rfl rfl ?_
                refine zw_iconst (v := 2) (pc' := 127) K dX2_file_126 (by decide) rfl ?_
                refine zc_X2_77 (rest := []) (c' := 0) (n' := 0) (pc' := 130) K (ct_X2_fails hl hW2 2) hW2.mo rfl rfl dX2_file_127 rfl (Nat.le_of_ble_eq_true rfl) ⟨Nat.le_of_ble_eq_true rfl, Nat.le_of_ble_eq_true rfl⟩ ⟨Nat.le_of_ble_eq_true rfl, Nat.le_of_ble_eq_true rfl, Nat.le_of_ble_eq_true rfl, Nat.le_of_ble_eq_true rfl⟩ (zw_ki fun r M1 h => ?_) zw_kn
                obtain ⟨rfl, hW17⟩ := h
                exact zw_iret K hE dX2_file_130 ⟨Nat.le_of_ble_eq_true rfl, Nat.le_of_ble_eq_true rfl⟩ (by rw [show zop_file μ (nI ja) (nI jb) = (0, 2, μ) from by simp [zop_file, c10, hH, hg20, Int32.not_le.mp c122]]; exact ⟨rfl, hW17⟩)
        · have hlt48 : f < zg μ := zi_lt hxf rfl hi48 (by have := hI.g; omega) c54
          subst hxf
          refine zw_iload (x := acc) (pc' := 59) K dX2_file_57 rfl rfl ?_
          refine zw_if_ne (tgt := 85) (pc' := 62) K dX2_file_59 (by decide) rfl (fun c59 => ?_) (fun c59 => ?_)
          · refine zw_iconst (v := 1) (pc' := 86) K dX2_file_85 (by decide) rfl ?_
            refine zw_goto (tgt := 90) K dX2_file_86 (by decide) ?_
            refine zw_istore (lv' := [some (.ref (ad 100 0 0)), some (.int (nI ja)), some (.int (nI jb)), some (.int lo), some (.int hi), some (.int 1), some (.int (nI f))]) (pc' := 92) K dX2_file_90 (by decide) rfl rfl ?_
            refine zw_iinc (x := (nI f)) (lv' := [some (.ref (ad 100 0 0)), some (.int (nI ja)), some (.int (nI jb)), some (.int lo), some (.int hi), some (.int 1), some (.int ((nI f) + 1))]) (pc' := 95) K dX2_file_92 rfl (by decide) rfl rfl ?_
            refine zw_goto (tgt := 48) K dX2_file_95 (by decide) ?_
            exact ih48 hlt48 ((nI f) + 1) 1 (nI_1 f) (by have hz := zb_nz.mp (hacc ▸ c59); rw [zf_s]; simp [zhadF, hz, zb])
          · refine zw_aload_n (v := .ref (ad 100 0 0)) (pc' := 63) K dX2_file_62 rfl rfl rfl ?_
            refine zg_X2_33 (v := .ref (ad 108 0 0)) (pc' := 66) K hW2.mo rfl dX2_file_63 rfl ?_
            refine zw_iload (x := (nI f)) (pc' := 68) K dX2_file_66 rfl rfl ?_
            refine zn_iald (j := f) (v := ((zv μ 7) f)) (pc' := 69) K hW2.m7 rfl (by have := hI.g; omega) rfl dX2_file_68 rfl ?_
            refine zw_iload_n (x := lo) (pc' := 70) K dX2_file_69 rfl rfl ?_
            refine zw_icmp_ne (tgt := 89) (pc' := 73) K dX2_file_70 (by decide) rfl (fun c70 => ?_) (fun c70 => ?_)
            · refine zw_iconst (v := 0) (pc' := 90) K dX2_file_89 (by decide) rfl ?_
              refine zw_istore (lv' := [some (.ref (ad 100 0 0)), some (.int (nI ja)), some (.int (nI jb)), some (.int lo), some (.int hi), some (.int 0), some (.int (nI f))]) (pc' := 92) K dX2_file_90 (by decide) rfl rfl ?_
              refine zw_iinc (x := (nI f)) (lv' := [some (.ref (ad 100 0 0)), some (.int (nI ja)), some (.int (nI jb)), some (.int lo), some (.int hi), some (.int 0), some (.int ((nI f) + 1))]) (pc' := 95) K dX2_file_92 rfl (by decide) rfl rfl ?_
              refine zw_goto (tgt := 48) K dX2_file_95 (by decide) ?_
              exact ih48 hlt48 ((nI f) + 1) 0 (nI_1 f) (by have hz := zb_0.mp (hacc ▸ c59); rw [zf_s]; simp [zhadF, hz, zb, c70])
            · refine zw_aload_n (v := .ref (ad 100 0 0)) (pc' := 74) K dX2_file_73 rfl rfl rfl ?_
              refine zg_X2_36 (v := .ref (ad 109 0 0)) (pc' := 77) K hW2.mo rfl dX2_file_74 rfl ?_
              refine zw_iload (x := (nI f)) (pc' := 79) K dX2_file_77 rfl rfl ?_
              refine zn_iald (j := f) (v := ((zv μ 8) f)) (pc' := 80) K hW2.m8 rfl (by have := hI.g; omega) rfl dX2_file_79 rfl ?_
              refine zw_iload (x := hi) (pc' := 82) K dX2_file_80 rfl rfl ?_
              refine zw_icmp_ne (tgt := 89) (pc' := 85) K dX2_file_82 (by decide) rfl (fun c82 => ?_) (fun c82 => ?_)
              · refine zw_iconst (v := 0) (pc' := 90) K dX2_file_89 (by decide) rfl ?_
                refine zw_istore (lv' := [some (.ref (ad 100 0 0)), some (.int (nI ja)), some (.int (nI jb)), some (.int lo), some (.int hi), some (.int 0), some (.int (nI f))]) (pc' := 92) K dX2_file_90 (by decide) rfl rfl ?_
                refine zw_iinc (x := (nI f)) (lv' := [some (.ref (ad 100 0 0)), some (.int (nI ja)), some (.int (nI jb)), some (.int lo), some (.int hi), some (.int 0), some (.int ((nI f) + 1))]) (pc' := 95) K dX2_file_92 rfl (by decide) rfl rfl ?_
                refine zw_goto (tgt := 48) K dX2_file_95 (by decide) ?_
                exact ih48 hlt48 ((nI f) + 1) 0 (nI_1 f) (by have hz := zb_0.mp (hacc ▸ c59); rw [zf_s]; simp [zhadF, hz, zb, c70, c82])
              · refine zw_iconst (v := 1) (pc' := 86) K dX2_file_85 (by decide) rfl ?_
                refine zw_goto (tgt := 90) K dX2_file_86 (by decide) ?_
                refine zw_istore (lv' := [some (.ref (ad 100 0 0)), some (.int (nI ja)), some (.int (nI jb)), some (.int lo), some (.int hi), some (.int 1), some (.int (nI f))]) (pc' := 92) K dX2_file_90 (by decide) rfl rfl ?_
                refine zw_iinc (x := (nI f)) (lv' := [some (.ref (ad 100 0 0)), some (.int (nI ja)), some (.int (nI jb)), some (.int lo), some (.int hi), some (.int 1), some (.int ((nI f) + 1))]) (pc' := 95) K dX2_file_92 rfl (by decide) rfl rfl ?_
                refine zw_goto (tgt := 48) K dX2_file_95 (by decide) ?_
                exact ih48 hlt48 ((nI f) + 1) 1 (nI_1 f) (by have hz := zb_0.mp (hacc ▸ c59); rw [zf_s]; simp [zhadF, hz, zb, c70, c82])
      exact L48 0 (Nat.zero_le _) 0 0 rfl rfl
    refine zw_iload_n (x := (nI ja)) (pc' := 20) K dX2_file_19 rfl rfl ?_
    refine zw_iload_n (x := (nI jb)) (pc' := 21) K dX2_file_20 rfl rfl ?_
    refine zw_icmp_ge (tgt := 28) (pc' := 24) K dX2_file_21 (by decide) rfl (fun c21 => ?_) (fun c21 => ?_)
    · refine zw_iload_n (x := (nI jb)) (pc' := 29) K dX2_file_28 rfl rfl ?_
      refine zw_istore_n (lv' := [some (.ref (ad 100 0 0)), some (.int (nI ja)), some (.int (nI jb)), some (.int (nI jb)), none, none, none]) (pc' := 30) K dX2_file_29 (by decide) rfl rfl ?_
      refine zw_iload_n (x := (nI ja)) (pc' := 31) K dX2_file_30 rfl rfl ?_
      refine zw_iload_n (x := (nI jb)) (pc' := 32) K dX2_file_31 rfl rfl ?_
      refine zw_icmp_ge (tgt := 39) (pc' := 35) K dX2_file_32 (by decide) rfl (fun c32 => ?_) (fun c32 => by exact absurd c21 c32)
      refine zw_iload_n (x := (nI ja)) (pc' := 40) K dX2_file_39 rfl rfl ?_
      refine zw_istore (lv' := [some (.ref (ad 100 0 0)), some (.int (nI ja)), some (.int (nI jb)), some (.int (nI jb)), some (.int (nI ja)), none, none]) (pc' := 42) K dX2_file_40 (by decide) rfl rfl ?_
      exact J42 (nI jb) (nI ja) (zhad_pair c21 hne).1.symm (zhad_pair c21 hne).2.symm
    · refine zw_iload_n (x := (nI ja)) (pc' := 25) K dX2_file_24 rfl rfl ?_
      refine zw_goto (tgt := 29) K dX2_file_25 (by decide) ?_
      refine zw_istore_n (lv' := [some (.ref (ad 100 0 0)), some (.int (nI ja)), some (.int (nI jb)), some (.int (nI ja)), none, none, none]) (pc' := 30) K dX2_file_29 (by decide) rfl rfl ?_
      refine zw_iload_n (x := (nI ja)) (pc' := 31) K dX2_file_30 rfl rfl ?_
      refine zw_iload_n (x := (nI jb)) (pc' := 32) K dX2_file_31 rfl rfl ?_
      refine zw_icmp_ge (tgt := 39) (pc' := 35) K dX2_file_32 (by decide) rfl (fun c32 => by exact absurd c32 c21) (fun c32 => ?_)
      refine zw_iload_n (x := (nI jb)) (pc' := 36) K dX2_file_35 rfl rfl ?_
      refine zw_goto (tgt := 40) K dX2_file_36 (by decide) ?_
      refine zw_istore (lv' := [some (.ref (ad 100 0 0)), some (.int (nI ja)), some (.int (nI jb)), some (.int (nI ja)), some (.int (nI jb)), none, none]) (pc' := 42) K dX2_file_40 (by decide) rfl rfl ?_
      exact J42 (nI ja) (nI jb) (zhad_pair2 c21).1.symm (zhad_pair2 c21).2.symm
  · have c10 := zb_0.mp c10
    refine zw_aload_n (v := .ref (ad 100 0 0)) (pc' := 14) K dX2_file_13 rfl rfl rfl ?_
    refine zw_iconst (v := 1) (pc' := 15) K dX2_file_14 (by decide) rfl ?_
    refine zc_X2_77 (rest := []) (c' := 0) (n' := 0) (pc' := 18) K (ct_X2_fails hl hW2 1) hW2.mo rfl rfl dX2_file_15 rfl (Nat.le_of_ble_eq_true rfl) ⟨Nat.le_of_ble_eq_true rfl, Nat.le_of_ble_eq_true rfl⟩ ⟨Nat.le_of_ble_eq_true rfl, Nat.le_of_ble_eq_true rfl, Nat.le_of_ble_eq_true rfl, Nat.le_of_ble_eq_true rfl⟩ (zw_ki fun r M1 h => ?_) zw_kn
    obtain ⟨rfl, hW18⟩ := h
    exact zw_iret K hE dX2_file_18 ⟨Nat.le_of_ble_eq_true rfl, Nat.le_of_ble_eq_true rfl⟩ (by rw [show zop_file μ a b = (0, 1, μ) from by simp [zop_file, c10]]; exact ⟨rfl, hW18⟩)
