/-! the law's body: rows for the script, the switch and the end; one case a call -/
set_option maxRecDepth 100000
/-- the script: where it lies, that it is old, its length -/
def zlF (X : zw_X) (b L : Nat) (xs : Nat → Int32) : Prop := va_X b L xs X.2.2.2.2.1 X.2.2.2.2.1.heap ∧ b < X.2.2.2.2.1.heap.size ∧ ¬ zw_A (zw_Xw X) b ∧ L ≤ 256
section ZLAW
variable {X : zw_X} {cc : ByteArray} {nL : Nat} {own : String} {rm : Room} {M : zw_M} {c n pc pc' : Nat} {lv : List (Option Value)} {st : List Value} {b L : Nat} {xs : Nat → Int32}
theorem zw_sld (K : zw_K X cc nL own rm) (hF : zlF X b L xs) {i : Int32} {j : Nat} (hi : i = nI j) (hj : j < L) (hd : decode cc pc = .ok (.iaload, 1)) (hp : pc + 1 = pc') (k : zw_Z X M c n pc' lv (.int (xs j) :: st)) : zw_Z X M c n pc lv (.int i :: .ref b :: st) := by
  subst hp
  obtain ⟨hx, hb, -⟩ := K
  obtain ⟨f1, f2, f3, f4⟩ := hF
  intro H locs ls hH hS hl
  have z : vp_in i L := by rw [hi]; exact vp_in_nI hj (by omega)
  refine va_sld hx hb f1 f2 f3 hS z hd ?_
  rw [hi, nI_clamp (by omega)]
  exact k H locs ls hH hS hl
theorem zw_slen (K : zw_K X cc nL own rm) (hF : zlF X b L xs) (hd : decode cc pc = .ok (.arraylength, 1)) (hp : pc + 1 = pc') (k : zw_Z X M c n pc' lv (.int (nI L) :: st)) : zw_Z X M c n pc lv (.ref b :: st) := by
  subst hp
  obtain ⟨hx, hb, -⟩ := K
  obtain ⟨f1, f2, f3, f4⟩ := hF
  intro H locs ls hH hS hl
  exact va_slen hx hb f1 f2 f3 hS hd (k H locs ls hH hS hl)
theorem zw_tabI (K : zw_K X cc nL own rm) {dflt lo hi : Int} {offs : Array Int} {len : Nat} {x : Int32} {off : Int} {tgt : Nat} (hd : decode cc pc = .ok (.tableswitch dflt lo hi offs, len)) (h1 : ¬ x.toInt < lo) (h2 : ¬ hi < x.toInt) (ho : offs[(x.toInt - lo).toNat]? = some off) (ht : (pc : Int) + off = (tgt : Int)) (k : zw_Z X M c n tgt lv st) : zw_Z X M c n pc lv (.int x :: st) := by
  obtain ⟨hx, hb, -⟩ := K
  intro H locs ls hH hS hl
  exact lv_tableIn hx hb hd h1 h2 ho ht (k H locs ls hH hS hl)
theorem zw_tabO (K : zw_K X cc nL own rm) {dflt lo hi : Int} {offs : Array Int} {len : Nat} {x : Int32} {tgt : Nat} (hd : decode cc pc = .ok (.tableswitch dflt lo hi offs, len)) (h : x.toInt < lo ∨ hi < x.toInt) (ht : (pc : Int) + dflt = (tgt : Int)) (k : zw_Z X M c n tgt lv st) : zw_Z X M c n pc lv (.int x :: st) := by
  obtain ⟨hx, hb, -⟩ := K
  intro H locs ls hH hS hl
  exact lv_tableOut hx hb hd h ht (k H locs ls hH hS hl)
/-- the law's end -/
theorem zw_lend (K : zw_K X cL_law 7 RX0 room_1) (hret : X.2.2.2.2.2.2.2.2.1.sig.returnType = ret) (hargs : X.2.2.2.2.2.2.1 = #[Value.ref b]) (hQ : X.2.2.2.2.2.2.2.2.2.2.1 = lw_Z X.2.2.2.2.2.2.2.1 #[Value.ref b] X.2.2.2.2.1) (hB : zw_B (zw_Xw X) = X.2.2.2.2.1.heap.size) (hcs : c ≤ 717834 ∧ n ≤ 6846346) (hd : decode cL_law pc = .ok (.ireturn, 1)) : zw_Z X M c n pc lv [.int 1] := by
  obtain ⟨hx, hb, hml, hown, hts, hRR, hlk, -⟩ := K
  intro H locs ls hH hS hl
  refine W.widen hcs.1 hcs.2 ?_
  refine va_forget (fun q hq => ?_) ?_
  · have z : zw_B (zw_Xw X) ≤ q.base := hS.2.2 q hq
    rw [← hB]; exact z
  · rw [hRR, hargs, hQ]
    exact lw_ret hx hb hret hlk hd
end ZLAW
/-- the world by the law's own three references -/
def zWl (w : zw_W) (M : zw_M) (a0 a1 a2 : Nat) (σ μ : zS) (th : Int32) (o : Int64) : Prop := ∃ ad : Nat → Nat → Nat → Nat, ad 0 0 0 = a0 ∧ ad 100 0 0 = a1 ∧ ad 200 0 0 = a2 ∧ zW w M ad σ μ th o
theorem zcmp_self (x : Int64) : lg_cmp x x = 0 := by simp [lg_cmp]
theorem zad_2 (n : Nat) : nI n + 2 = nI (n + 2) := by rw [show (2 : Int32) = nI 2 by decide, nI_add]
theorem zad_3 (n : Nat) : nI n + 3 = nI (n + 3) := by rw [show (3 : Int32) = nI 3 by decide, nI_add]
theorem zI.o_turnover {σ : zS} (h : zI σ) {x : Int32} : zI (zop_turnover σ x).2.2 := by
  unfold zop_turnover
  repeat' split
  all_goals exact h
theorem zI.o_won {σ : zS} (h : zI σ) {x : Int32} : zI (zop_won σ x).2.2 := by
  unfold zop_won
  repeat' split
  all_goals exact h
theorem zI.o_suspicion {σ : zS} (h : zI σ) {x y : Int32} : zI (zop_suspicion σ x y).2.2 := by
  unfold zop_suspicion
  repeat' split
  all_goals exact h
theorem zI.o_sign {σ : zS} (h : zI σ) {x y z : Int32} : zI (zop_sign σ x y z).2.2 := by
  unfold zop_sign
  repeat' split
  all_goals exact h
theorem zI.o_matters {σ : zS} (h : zI σ) {x : Int32} : zI (zop_matters σ x).2.2 := by
  unfold zop_matters
  repeat' split
  all_goals exact h
theorem zI.o_fine {σ : zS} (h : zI σ) {x y : Int32} : zI (zop_fine σ x y).2.2 := by
  unfold zop_fine
  repeat' split
  all_goals exact h
theorem zI.o_firstTeller {σ : zS} (h : zI σ) {x : Int32} : zI (zop_firstTeller σ x).2.2 := by
  unfold zop_firstTeller
  repeat' split
  all_goals exact h
set_option maxHeartbeats 2000000 in
theorem lc_open {X : zw_X} (K : zw_K X cL_law 7 RX0 room_1) {b L : Nat} {xs : Nat → Int32} (hF : zlF X b L xs) {M : zw_M} {c n a0 a1 a2 : Nat} {σ : zS} {th : Int32} {o : Int64} (hw : zWl (zw_Xw X) M a0 a1 a2 σ σ th o) (hI : zI σ) {i : Nat} (hi : 4 * i + 4 ≤ L) (hc : c + 60 ≤ 717834) (hn : n + 2100 ≤ 6846346)
    (kk : ∀ (M' : zw_M) (σ' : zS) (th' : Int32) (o' : Int64), zI σ' → zWl (zw_Xw X) M' a0 a1 a2 σ' σ' th' o' → zw_Z X M' (c + 60) (n + 2100) 1240 [some (.ref b), some (.ref a0), some (.ref a1), some (.ref a2), some (.int (nI (4 * i))), none, none] []) : zw_Z X M c n 124 [some (.ref b), some (.ref a0), some (.ref a1), some (.ref a2), some (.int (nI (4 * i))), none, none] [] := by
  obtain ⟨ad, rfl, rfl, rfl, hW⟩ := hw
  have hl : (zw_Xl X).stackTraces = false := K.2.2.2.2.2.2.2.2
  refine zw_aload_n (v := .ref (ad 0 0 0)) (pc' := 125) K dL_law_124 rfl rfl rfl ?_
  refine zw_aload_n (v := .ref (ad 200 0 0)) (pc' := 126) K dL_law_125 rfl rfl rfl ?_
  refine zw_callSW (rest := []) (c' := c + 60) (n' := n + 2100) (pc' := 129) K (ct_X0_open hl hW hI) q187 q188 q21 q189 ⟨by decide, by decide, by show (parseMethodDescriptor yX0_open.desc).map (fun d => d.parameters.length) = some 2; decide +kernel⟩ rfl dL_law_126 rfl (Nat.le_of_ble_eq_true rfl) ⟨Nat.le_of_ble_eq_true rfl, Nat.le_of_ble_eq_true rfl⟩ ⟨by show c + 4 ≤ c + 60; omega, by show n + 82 ≤ n + 2100; omega, by show c + 60 ≤ 717834; omega, by show n + 2100 ≤ 6846346; omega⟩ (zw_ki fun r Ma h => ?_) zw_kn
  obtain ⟨hr, ad', h1, h2, h3, hW1⟩ := h
  subst hr
  have zm := ct_X2_open hl hW1 hI
  have hmo := hW1.mo
  rw [h2] at zm hmo
  refine zw_istore (lv' := [some (.ref b), some (.ref (ad 0 0 0)), some (.ref (ad 100 0 0)), some (.ref (ad 200 0 0)), some (.int (nI (4 * i))), some (.int ((zop_tender σ).2.1)), none]) (pc' := 131) K dL_law_129 (by decide) rfl rfl ?_
  refine zw_aload_n (v := .ref (ad 100 0 0)) (pc' := 132) K dL_law_131 rfl rfl rfl ?_
  refine zc_X0_80 (rest := []) (c' := c + 60) (n' := n + 2100) (pc' := 135) K (zm) hmo rfl rfl dL_law_132 rfl (Nat.le_of_ble_eq_true rfl) ⟨Nat.le_of_ble_eq_true rfl, Nat.le_of_ble_eq_true rfl⟩ ⟨by show c + 60 + 0 ≤ c + 60; omega, by show n + 2100 + 0 ≤ n + 2100; omega, by show c + 60 ≤ 717834; omega, by show n + 2100 ≤ 6846346; omega⟩ (zw_ki fun r Mb h => ?_) zw_kn
  obtain ⟨hr, hW2⟩ := h
  subst hr
  have zt := ct_X2_thrown hl hW2
  have hmo2 := hW2.mo
  have hout := hW2.mout
  rw [h2] at zt hmo2
  rw [h3] at hout
  refine zw_istore (lv' := [some (.ref b), some (.ref (ad 0 0 0)), some (.ref (ad 100 0 0)), some (.ref (ad 200 0 0)), some (.int (nI (4 * i))), some (.int ((zop_tender σ).2.1)), some (.int ((zop_tender σ).1))]) (pc' := 137) K dL_law_135 (by decide) rfl rfl ?_
  refine zw_aload_n (v := .ref (ad 100 0 0)) (pc' := 138) K dL_law_137 rfl rfl rfl ?_
  refine zc_X0_81 (rest := []) (c' := c + 60) (n' := n + 2100) (pc' := 141) K (zt) hmo2 rfl rfl dL_law_138 rfl (Nat.le_of_ble_eq_true rfl) ⟨Nat.le_of_ble_eq_true rfl, Nat.le_of_ble_eq_true rfl⟩ ⟨by show c + 60 + 0 ≤ c + 60; omega, by show n + 2100 + 0 ≤ n + 2100; omega, by show c + 60 ≤ 717834; omega, by show n + 2100 ≤ 6846346; omega⟩ (zw_kp ?_) zw_kn
  refine zw_iload (x := (zop_tender σ).2.1) (pc' := 143) K dL_law_141 rfl rfl ?_
  refine zw_icmp_eq (tgt := 148) (pc' := 146) K dL_law_143 (by decide) rfl (fun c143 => ?_) (fun c143 => by exact absurd rfl c143)
  refine zw_iload (x := (zop_tender σ).2.1) (pc' := 150) K dL_law_148 rfl rfl ?_
  refine zw_if_ne (tgt := 165) (pc' := 153) K dL_law_150 (by decide) rfl (fun c150 => ?_) (fun c150 => ?_)
  · refine zw_goto (tgt := 1240) K dL_law_165 (by decide) ?_
    refine zw_weakL (lv' := [some (.ref b), some (.ref (ad 0 0 0)), some (.ref (ad 100 0 0)), some (.ref (ad 200 0 0)), some (.int (nI (4 * i))), none, none]) (by simp [zw_le]) ?_
    exact kk Mb (zop_tender σ).2.2 (zop_tender σ).2.1 (if (zop_tender σ).2.1 = 0 then ((zop_tender σ).1).toInt64 else o) hI.o_tender ⟨ad', h1, h2, h3, hW2⟩
  · refine zw_aload_n (v := .ref (ad 200 0 0)) (pc' := 154) K dL_law_153 rfl rfl rfl ?_
    refine zw_iconst (v := 0) (pc' := 155) K dL_law_154 (by decide) rfl ?_
    refine zn_lald (j := 0) (v := (((zop_tender σ).1).toInt64)) (pc' := 156) K hout rfl (by decide) (by show (if (zop_tender σ).2.1 = 0 then ((zop_tender σ).1).toInt64 else o) = ((zop_tender σ).1).toInt64; exact if_pos c150) dL_law_155 rfl ?_
    refine zw_iload (x := (zop_tender σ).1) (pc' := 158) K dL_law_156 rfl rfl ?_
    refine zw_i2l (pc' := 159) K dL_law_158 rfl ?_
    refine zw_lcmp (pc' := 160) K dL_law_159 rfl ?_
    refine zw_if_eq (tgt := 165) (pc' := 163) K dL_law_160 (by decide) rfl (fun c160 => ?_) (fun c160 => by exact absurd (zcmp_self _) c160)
    refine zw_goto (tgt := 1240) K dL_law_165 (by decide) ?_
    refine zw_weakL (lv' := [some (.ref b), some (.ref (ad 0 0 0)), some (.ref (ad 100 0 0)), some (.ref (ad 200 0 0)), some (.int (nI (4 * i))), none, none]) (by simp [zw_le]) ?_
    exact kk Mb (zop_tender σ).2.2 (zop_tender σ).2.1 (if (zop_tender σ).2.1 = 0 then ((zop_tender σ).1).toInt64 else o) hI.o_tender ⟨ad', h1, h2, h3, hW2⟩
set_option maxHeartbeats 2000000 in
theorem lc_bid {X : zw_X} (K : zw_K X cL_law 7 RX0 room_1) {b L : Nat} {xs : Nat → Int32} (hF : zlF X b L xs) {M : zw_M} {c n a0 a1 a2 : Nat} {σ : zS} {th : Int32} {o : Int64} (hw : zWl (zw_Xw X) M a0 a1 a2 σ σ th o) (hI : zI σ) {i : Nat} (hi : 4 * i + 4 ≤ L) (hc : c + 60 ≤ 717834) (hn : n + 2100 ≤ 6846346)
    (kk : ∀ (M' : zw_M) (σ' : zS) (th' : Int32) (o' : Int64), zI σ' → zWl (zw_Xw X) M' a0 a1 a2 σ' σ' th' o' → zw_Z X M' (c + 60) (n + 2100) 1240 [some (.ref b), some (.ref a0), some (.ref a1), some (.ref a2), some (.int (nI (4 * i))), none, none] []) : zw_Z X M c n 168 [some (.ref b), some (.ref a0), some (.ref a1), some (.ref a2), some (.int (nI (4 * i))), none, none] [] := by
  obtain ⟨ad, rfl, rfl, rfl, hW⟩ := hw
  have hl : (zw_Xl X).stackTraces = false := K.2.2.2.2.2.2.2.2
  refine zw_aload_n (v := .ref (ad 0 0 0)) (pc' := 169) K dL_law_168 rfl rfl rfl ?_
  refine zw_aload_n (v := .ref b) (pc' := 170) K dL_law_169 rfl rfl rfl ?_
  refine zw_iload (x := nI (4 * i)) (pc' := 172) K dL_law_170 rfl rfl ?_
  refine zw_iconst (v := 1) (pc' := 173) K dL_law_172 (by decide) rfl ?_
  refine zw_iadd (pc' := 174) K dL_law_173 rfl ?_
  refine zw_sld (j := 4 * i + 1) (pc' := 175) K hF (nI_1 (4 * i)) (by omega) dL_law_174 rfl ?_
  refine zw_aload_n (v := .ref b) (pc' := 176) K dL_law_175 rfl rfl rfl ?_
  refine zw_iload (x := nI (4 * i)) (pc' := 178) K dL_law_176 rfl rfl ?_
  refine zw_iconst (v := 2) (pc' := 179) K dL_law_178 (by decide) rfl ?_
  refine zw_iadd (pc' := 180) K dL_law_179 rfl ?_
  refine zw_sld (j := 4 * i + 2) (pc' := 181) K hF (zad_2 (4 * i)) (by omega) dL_law_180 rfl ?_
  refine zw_aload_n (v := .ref b) (pc' := 182) K dL_law_181 rfl rfl rfl ?_
  refine zw_iload (x := nI (4 * i)) (pc' := 184) K dL_law_182 rfl rfl ?_
  refine zw_iconst (v := 3) (pc' := 185) K dL_law_184 (by decide) rfl ?_
  refine zw_iadd (pc' := 186) K dL_law_185 rfl ?_
  refine zw_sld (j := 4 * i + 3) (pc' := 187) K hF (zad_3 (4 * i)) (by omega) dL_law_186 rfl ?_
  refine zw_aload_n (v := .ref (ad 200 0 0)) (pc' := 188) K dL_law_187 rfl rfl rfl ?_
  refine zw_callSW (rest := []) (c' := c + 60) (n' := n + 2100) (pc' := 191) K (ct_X0_bid hl hW hI (xs (4 * i + 1)) (xs (4 * i + 2)) (xs (4 * i + 3))) q354 q355 q21 q356 ⟨by decide, by decide, by show (parseMethodDescriptor yX0_bid.desc).map (fun d => d.parameters.length) = some 5; decide +kernel⟩ rfl dL_law_188 rfl (Nat.le_of_ble_eq_true rfl) ⟨Nat.le_of_ble_eq_true rfl, Nat.le_of_ble_eq_true rfl⟩ ⟨by show c + 5 ≤ c + 60; omega, by show n + 26 ≤ n + 2100; omega, by show c + 60 ≤ 717834; omega, by show n + 2100 ≤ 6846346; omega⟩ (zw_ki fun r Ma h => ?_) zw_kn
  obtain ⟨hr, ad', h1, h2, h3, hW1⟩ := h
  subst hr
  have zm := ct_X2_bid hl hW1 hI (xs (4 * i + 1)) (xs (4 * i + 2)) (xs (4 * i + 3))
  have hmo := hW1.mo
  rw [h2] at zm hmo
  refine zw_istore (lv' := [some (.ref b), some (.ref (ad 0 0 0)), some (.ref (ad 100 0 0)), some (.ref (ad 200 0 0)), some (.int (nI (4 * i))), some (.int ((zop_bid σ (xs (4 * i + 1)) (xs (4 * i + 2)) (xs (4 * i + 3))).2.1)), none]) (pc' := 193) K dL_law_191 (by decide) rfl rfl ?_
  refine zw_aload_n (v := .ref (ad 100 0 0)) (pc' := 194) K dL_law_193 rfl rfl rfl ?_
  refine zw_aload_n (v := .ref b) (pc' := 195) K dL_law_194 rfl rfl rfl ?_
  refine zw_iload (x := nI (4 * i)) (pc' := 197) K dL_law_195 rfl rfl ?_
  refine zw_iconst (v := 1) (pc' := 198) K dL_law_197 (by decide) rfl ?_
  refine zw_iadd (pc' := 199) K dL_law_198 rfl ?_
  refine zw_sld (j := 4 * i + 1) (pc' := 200) K hF (nI_1 (4 * i)) (by omega) dL_law_199 rfl ?_
  refine zw_aload_n (v := .ref b) (pc' := 201) K dL_law_200 rfl rfl rfl ?_
  refine zw_iload (x := nI (4 * i)) (pc' := 203) K dL_law_201 rfl rfl ?_
  refine zw_iconst (v := 2) (pc' := 204) K dL_law_203 (by decide) rfl ?_
  refine zw_iadd (pc' := 205) K dL_law_204 rfl ?_
  refine zw_sld (j := 4 * i + 2) (pc' := 206) K hF (zad_2 (4 * i)) (by omega) dL_law_205 rfl ?_
  refine zw_aload_n (v := .ref b) (pc' := 207) K dL_law_206 rfl rfl rfl ?_
  refine zw_iload (x := nI (4 * i)) (pc' := 209) K dL_law_207 rfl rfl ?_
  refine zw_iconst (v := 3) (pc' := 210) K dL_law_209 (by decide) rfl ?_
  refine zw_iadd (pc' := 211) K dL_law_210 rfl ?_
  refine zw_sld (j := 4 * i + 3) (pc' := 212) K hF (zad_3 (4 * i)) (by omega) dL_law_211 rfl ?_
  refine zc_X0_87 (rest := []) (c' := c + 60) (n' := n + 2100) (pc' := 215) K (zm) hmo rfl rfl dL_law_212 rfl (Nat.le_of_ble_eq_true rfl) ⟨Nat.le_of_ble_eq_true rfl, Nat.le_of_ble_eq_true rfl⟩ ⟨by show c + 60 + 0 ≤ c + 60; omega, by show n + 2100 + 0 ≤ n + 2100; omega, by show c + 60 ≤ 717834; omega, by show n + 2100 ≤ 6846346; omega⟩ (zw_ki fun r Mb h => ?_) zw_kn
  obtain ⟨hr, hW2⟩ := h
  subst hr
  have zt := ct_X2_thrown hl hW2
  have hmo2 := hW2.mo
  have hout := hW2.mout
  rw [h2] at zt hmo2
  rw [h3] at hout
  refine zw_istore (lv' := [some (.ref b), some (.ref (ad 0 0 0)), some (.ref (ad 100 0 0)), some (.ref (ad 200 0 0)), some (.int (nI (4 * i))), some (.int ((zop_bid σ (xs (4 * i + 1)) (xs (4 * i + 2)) (xs (4 * i + 3))).2.1)), some (.int ((zop_bid σ (xs (4 * i + 1)) (xs (4 * i + 2)) (xs (4 * i + 3))).1))]) (pc' := 217) K dL_law_215 (by decide) rfl rfl ?_
  refine zw_aload_n (v := .ref (ad 100 0 0)) (pc' := 218) K dL_law_217 rfl rfl rfl ?_
  refine zc_X0_81 (rest := []) (c' := c + 60) (n' := n + 2100) (pc' := 221) K (zt) hmo2 rfl rfl dL_law_218 rfl (Nat.le_of_ble_eq_true rfl) ⟨Nat.le_of_ble_eq_true rfl, Nat.le_of_ble_eq_true rfl⟩ ⟨by show c + 60 + 0 ≤ c + 60; omega, by show n + 2100 + 0 ≤ n + 2100; omega, by show c + 60 ≤ 717834; omega, by show n + 2100 ≤ 6846346; omega⟩ (zw_kp ?_) zw_kn
  refine zw_iload (x := (zop_bid σ (xs (4 * i + 1)) (xs (4 * i + 2)) (xs (4 * i + 3))).2.1) (pc' := 223) K dL_law_221 rfl rfl ?_
  refine zw_icmp_eq (tgt := 228) (pc' := 226) K dL_law_223 (by decide) rfl (fun c223 => ?_) (fun c223 => by exact absurd rfl c223)
  refine zw_iload (x := (zop_bid σ (xs (4 * i + 1)) (xs (4 * i + 2)) (xs (4 * i + 3))).2.1) (pc' := 230) K dL_law_228 rfl rfl ?_
  refine zw_if_ne (tgt := 245) (pc' := 233) K dL_law_230 (by decide) rfl (fun c230 => ?_) (fun c230 => ?_)
  · refine zw_goto (tgt := 1240) K dL_law_245 (by decide) ?_
    refine zw_weakL (lv' := [some (.ref b), some (.ref (ad 0 0 0)), some (.ref (ad 100 0 0)), some (.ref (ad 200 0 0)), some (.int (nI (4 * i))), none, none]) (by simp [zw_le]) ?_
    exact kk Mb (zop_bid σ (xs (4 * i + 1)) (xs (4 * i + 2)) (xs (4 * i + 3))).2.2 (zop_bid σ (xs (4 * i + 1)) (xs (4 * i + 2)) (xs (4 * i + 3))).2.1 (if (zop_bid σ (xs (4 * i + 1)) (xs (4 * i + 2)) (xs (4 * i + 3))).2.1 = 0 then ((zop_bid σ (xs (4 * i + 1)) (xs (4 * i + 2)) (xs (4 * i + 3))).1).toInt64 else o) hI.o_bid ⟨ad', h1, h2, h3, hW2⟩
  · refine zw_aload_n (v := .ref (ad 200 0 0)) (pc' := 234) K dL_law_233 rfl rfl rfl ?_
    refine zw_iconst (v := 0) (pc' := 235) K dL_law_234 (by decide) rfl ?_
    refine zn_lald (j := 0) (v := (((zop_bid σ (xs (4 * i + 1)) (xs (4 * i + 2)) (xs (4 * i + 3))).1).toInt64)) (pc' := 236) K hout rfl (by decide) (by show (if (zop_bid σ (xs (4 * i + 1)) (xs (4 * i + 2)) (xs (4 * i + 3))).2.1 = 0 then ((zop_bid σ (xs (4 * i + 1)) (xs (4 * i + 2)) (xs (4 * i + 3))).1).toInt64 else o) = ((zop_bid σ (xs (4 * i + 1)) (xs (4 * i + 2)) (xs (4 * i + 3))).1).toInt64; exact if_pos c230) dL_law_235 rfl ?_
    refine zw_iload (x := (zop_bid σ (xs (4 * i + 1)) (xs (4 * i + 2)) (xs (4 * i + 3))).1) (pc' := 238) K dL_law_236 rfl rfl ?_
    refine zw_i2l (pc' := 239) K dL_law_238 rfl ?_
    refine zw_lcmp (pc' := 240) K dL_law_239 rfl ?_
    refine zw_if_eq (tgt := 245) (pc' := 243) K dL_law_240 (by decide) rfl (fun c240 => ?_) (fun c240 => by exact absurd (zcmp_self _) c240)
    refine zw_goto (tgt := 1240) K dL_law_245 (by decide) ?_
    refine zw_weakL (lv' := [some (.ref b), some (.ref (ad 0 0 0)), some (.ref (ad 100 0 0)), some (.ref (ad 200 0 0)), some (.int (nI (4 * i))), none, none]) (by simp [zw_le]) ?_
    exact kk Mb (zop_bid σ (xs (4 * i + 1)) (xs (4 * i + 2)) (xs (4 * i + 3))).2.2 (zop_bid σ (xs (4 * i + 1)) (xs (4 * i + 2)) (xs (4 * i + 3))).2.1 (if (zop_bid σ (xs (4 * i + 1)) (xs (4 * i + 2)) (xs (4 * i + 3))).2.1 = 0 then ((zop_bid σ (xs (4 * i + 1)) (xs (4 * i + 2)) (xs (4 * i + 3))).1).toInt64 else o) hI.o_bid ⟨ad', h1, h2, h3, hW2⟩
set_option maxHeartbeats 2000000 in
theorem lc_withdraw {X : zw_X} (K : zw_K X cL_law 7 RX0 room_1) {b L : Nat} {xs : Nat → Int32} (hF : zlF X b L xs) {M : zw_M} {c n a0 a1 a2 : Nat} {σ : zS} {th : Int32} {o : Int64} (hw : zWl (zw_Xw X) M a0 a1 a2 σ σ th o) (hI : zI σ) {i : Nat} (hi : 4 * i + 4 ≤ L) (hc : c + 60 ≤ 717834) (hn : n + 2100 ≤ 6846346)
    (kk : ∀ (M' : zw_M) (σ' : zS) (th' : Int32) (o' : Int64), zI σ' → zWl (zw_Xw X) M' a0 a1 a2 σ' σ' th' o' → zw_Z X M' (c + 60) (n + 2100) 1240 [some (.ref b), some (.ref a0), some (.ref a1), some (.ref a2), some (.int (nI (4 * i))), none, none] []) : zw_Z X M c n 248 [some (.ref b), some (.ref a0), some (.ref a1), some (.ref a2), some (.int (nI (4 * i))), none, none] [] := by
  obtain ⟨ad, rfl, rfl, rfl, hW⟩ := hw
  have hl : (zw_Xl X).stackTraces = false := K.2.2.2.2.2.2.2.2
  refine zw_aload_n (v := .ref (ad 0 0 0)) (pc' := 249) K dL_law_248 rfl rfl rfl ?_
  refine zw_aload_n (v := .ref b) (pc' := 250) K dL_law_249 rfl rfl rfl ?_
  refine zw_iload (x := nI (4 * i)) (pc' := 252) K dL_law_250 rfl rfl ?_
  refine zw_iconst (v := 1) (pc' := 253) K dL_law_252 (by decide) rfl ?_
  refine zw_iadd (pc' := 254) K dL_law_253 rfl ?_
  refine zw_sld (j := 4 * i + 1) (pc' := 255) K hF (nI_1 (4 * i)) (by omega) dL_law_254 rfl ?_
  refine zw_aload_n (v := .ref b) (pc' := 256) K dL_law_255 rfl rfl rfl ?_
  refine zw_iload (x := nI (4 * i)) (pc' := 258) K dL_law_256 rfl rfl ?_
  refine zw_iconst (v := 2) (pc' := 259) K dL_law_258 (by decide) rfl ?_
  refine zw_iadd (pc' := 260) K dL_law_259 rfl ?_
  refine zw_sld (j := 4 * i + 2) (pc' := 261) K hF (zad_2 (4 * i)) (by omega) dL_law_260 rfl ?_
  refine zw_aload_n (v := .ref (ad 200 0 0)) (pc' := 262) K dL_law_261 rfl rfl rfl ?_
  refine zw_callSW (rest := []) (c' := c + 60) (n' := n + 2100) (pc' := 265) K (ct_X0_withdraw hl hW hI (xs (4 * i + 1)) (xs (4 * i + 2))) q441 q442 q21 q443 ⟨by decide, by decide, by show (parseMethodDescriptor yX0_withdraw.desc).map (fun d => d.parameters.length) = some 4; decide +kernel⟩ rfl dL_law_262 rfl (Nat.le_of_ble_eq_true rfl) ⟨Nat.le_of_ble_eq_true rfl, Nat.le_of_ble_eq_true rfl⟩ ⟨by show c + 3 ≤ c + 60; omega, by show n + 18 ≤ n + 2100; omega, by show c + 60 ≤ 717834; omega, by show n + 2100 ≤ 6846346; omega⟩ (zw_ki fun r Ma h => ?_) zw_kn
  obtain ⟨hr, ad', h1, h2, h3, hW1⟩ := h
  subst hr
  have zm := ct_X2_withdraw hl hW1 hI (xs (4 * i + 1)) (xs (4 * i + 2))
  have hmo := hW1.mo
  rw [h2] at zm hmo
  refine zw_istore (lv' := [some (.ref b), some (.ref (ad 0 0 0)), some (.ref (ad 100 0 0)), some (.ref (ad 200 0 0)), some (.int (nI (4 * i))), some (.int ((zop_withdraw σ (xs (4 * i + 1)) (xs (4 * i + 2))).2.1)), none]) (pc' := 267) K dL_law_265 (by decide) rfl rfl ?_
  refine zw_aload_n (v := .ref (ad 100 0 0)) (pc' := 268) K dL_law_267 rfl rfl rfl ?_
  refine zw_aload_n (v := .ref b) (pc' := 269) K dL_law_268 rfl rfl rfl ?_
  refine zw_iload (x := nI (4 * i)) (pc' := 271) K dL_law_269 rfl rfl ?_
  refine zw_iconst (v := 1) (pc' := 272) K dL_law_271 (by decide) rfl ?_
  refine zw_iadd (pc' := 273) K dL_law_272 rfl ?_
  refine zw_sld (j := 4 * i + 1) (pc' := 274) K hF (nI_1 (4 * i)) (by omega) dL_law_273 rfl ?_
  refine zw_aload_n (v := .ref b) (pc' := 275) K dL_law_274 rfl rfl rfl ?_
  refine zw_iload (x := nI (4 * i)) (pc' := 277) K dL_law_275 rfl rfl ?_
  refine zw_iconst (v := 2) (pc' := 278) K dL_law_277 (by decide) rfl ?_
  refine zw_iadd (pc' := 279) K dL_law_278 rfl ?_
  refine zw_sld (j := 4 * i + 2) (pc' := 280) K hF (zad_2 (4 * i)) (by omega) dL_law_279 rfl ?_
  refine zc_X0_91 (rest := []) (c' := c + 60) (n' := n + 2100) (pc' := 283) K (zm) hmo rfl rfl dL_law_280 rfl (Nat.le_of_ble_eq_true rfl) ⟨Nat.le_of_ble_eq_true rfl, Nat.le_of_ble_eq_true rfl⟩ ⟨by show c + 60 + 0 ≤ c + 60; omega, by show n + 2100 + 0 ≤ n + 2100; omega, by show c + 60 ≤ 717834; omega, by show n + 2100 ≤ 6846346; omega⟩ (zw_ki fun r Mb h => ?_) zw_kn
  obtain ⟨hr, hW2⟩ := h
  subst hr
  have zt := ct_X2_thrown hl hW2
  have hmo2 := hW2.mo
  have hout := hW2.mout
  rw [h2] at zt hmo2
  rw [h3] at hout
  refine zw_istore (lv' := [some (.ref b), some (.ref (ad 0 0 0)), some (.ref (ad 100 0 0)), some (.ref (ad 200 0 0)), some (.int (nI (4 * i))), some (.int ((zop_withdraw σ (xs (4 * i + 1)) (xs (4 * i + 2))).2.1)), some (.int ((zop_withdraw σ (xs (4 * i + 1)) (xs (4 * i + 2))).1))]) (pc' := 285) K dL_law_283 (by decide) rfl rfl ?_
  refine zw_aload_n (v := .ref (ad 100 0 0)) (pc' := 286) K dL_law_285 rfl rfl rfl ?_
  refine zc_X0_81 (rest := []) (c' := c + 60) (n' := n + 2100) (pc' := 289) K (zt) hmo2 rfl rfl dL_law_286 rfl (Nat.le_of_ble_eq_true rfl) ⟨Nat.le_of_ble_eq_true rfl, Nat.le_of_ble_eq_true rfl⟩ ⟨by show c + 60 + 0 ≤ c + 60; omega, by show n + 2100 + 0 ≤ n + 2100; omega, by show c + 60 ≤ 717834; omega, by show n + 2100 ≤ 6846346; omega⟩ (zw_kp ?_) zw_kn
  refine zw_iload (x := (zop_withdraw σ (xs (4 * i + 1)) (xs (4 * i + 2))).2.1) (pc' := 291) K dL_law_289 rfl rfl ?_
  refine zw_icmp_eq (tgt := 296) (pc' := 294) K dL_law_291 (by decide) rfl (fun c291 => ?_) (fun c291 => by exact absurd rfl c291)
  refine zw_iload (x := (zop_withdraw σ (xs (4 * i + 1)) (xs (4 * i + 2))).2.1) (pc' := 298) K dL_law_296 rfl rfl ?_
  refine zw_if_ne (tgt := 313) (pc' := 301) K dL_law_298 (by decide) rfl (fun c298 => ?_) (fun c298 => ?_)
  · refine zw_goto (tgt := 1240) K dL_law_313 (by decide) ?_
    refine zw_weakL (lv' := [some (.ref b), some (.ref (ad 0 0 0)), some (.ref (ad 100 0 0)), some (.ref (ad 200 0 0)), some (.int (nI (4 * i))), none, none]) (by simp [zw_le]) ?_
    exact kk Mb (zop_withdraw σ (xs (4 * i + 1)) (xs (4 * i + 2))).2.2 (zop_withdraw σ (xs (4 * i + 1)) (xs (4 * i + 2))).2.1 (if (zop_withdraw σ (xs (4 * i + 1)) (xs (4 * i + 2))).2.1 = 0 then ((zop_withdraw σ (xs (4 * i + 1)) (xs (4 * i + 2))).1).toInt64 else o) hI.o_withdraw ⟨ad', h1, h2, h3, hW2⟩
  · refine zw_aload_n (v := .ref (ad 200 0 0)) (pc' := 302) K dL_law_301 rfl rfl rfl ?_
    refine zw_iconst (v := 0) (pc' := 303) K dL_law_302 (by decide) rfl ?_
    refine zn_lald (j := 0) (v := (((zop_withdraw σ (xs (4 * i + 1)) (xs (4 * i + 2))).1).toInt64)) (pc' := 304) K hout rfl (by decide) (by show (if (zop_withdraw σ (xs (4 * i + 1)) (xs (4 * i + 2))).2.1 = 0 then ((zop_withdraw σ (xs (4 * i + 1)) (xs (4 * i + 2))).1).toInt64 else o) = ((zop_withdraw σ (xs (4 * i + 1)) (xs (4 * i + 2))).1).toInt64; exact if_pos c298) dL_law_303 rfl ?_
    refine zw_iload (x := (zop_withdraw σ (xs (4 * i + 1)) (xs (4 * i + 2))).1) (pc' := 306) K dL_law_304 rfl rfl ?_
    refine zw_i2l (pc' := 307) K dL_law_306 rfl ?_
    refine zw_lcmp (pc' := 308) K dL_law_307 rfl ?_
    refine zw_if_eq (tgt := 313) (pc' := 311) K dL_law_308 (by decide) rfl (fun c308 => ?_) (fun c308 => by exact absurd (zcmp_self _) c308)
    refine zw_goto (tgt := 1240) K dL_law_313 (by decide) ?_
    refine zw_weakL (lv' := [some (.ref b), some (.ref (ad 0 0 0)), some (.ref (ad 100 0 0)), some (.ref (ad 200 0 0)), some (.int (nI (4 * i))), none, none]) (by simp [zw_le]) ?_
    exact kk Mb (zop_withdraw σ (xs (4 * i + 1)) (xs (4 * i + 2))).2.2 (zop_withdraw σ (xs (4 * i + 1)) (xs (4 * i + 2))).2.1 (if (zop_withdraw σ (xs (4 * i + 1)) (xs (4 * i + 2))).2.1 = 0 then ((zop_withdraw σ (xs (4 * i + 1)) (xs (4 * i + 2))).1).toInt64 else o) hI.o_withdraw ⟨ad', h1, h2, h3, hW2⟩
set_option maxHeartbeats 2000000 in
theorem lc_award {X : zw_X} (K : zw_K X cL_law 7 RX0 room_1) {b L : Nat} {xs : Nat → Int32} (hF : zlF X b L xs) {M : zw_M} {c n a0 a1 a2 : Nat} {σ : zS} {th : Int32} {o : Int64} (hw : zWl (zw_Xw X) M a0 a1 a2 σ σ th o) (hI : zI σ) {i : Nat} (hi : 4 * i + 4 ≤ L) (hc : c + 60 ≤ 717834) (hn : n + 2100 ≤ 6846346)
    (kk : ∀ (M' : zw_M) (σ' : zS) (th' : Int32) (o' : Int64), zI σ' → zWl (zw_Xw X) M' a0 a1 a2 σ' σ' th' o' → zw_Z X M' (c + 60) (n + 2100) 1240 [some (.ref b), some (.ref a0), some (.ref a1), some (.ref a2), some (.int (nI (4 * i))), none, none] []) : zw_Z X M c n 316 [some (.ref b), some (.ref a0), some (.ref a1), some (.ref a2), some (.int (nI (4 * i))), none, none] [] := by
  obtain ⟨ad, rfl, rfl, rfl, hW⟩ := hw
  have hl : (zw_Xl X).stackTraces = false := K.2.2.2.2.2.2.2.2
  refine zw_aload_n (v := .ref (ad 0 0 0)) (pc' := 317) K dL_law_316 rfl rfl rfl ?_
  refine zw_aload_n (v := .ref b) (pc' := 318) K dL_law_317 rfl rfl rfl ?_
  refine zw_iload (x := nI (4 * i)) (pc' := 320) K dL_law_318 rfl rfl ?_
  refine zw_iconst (v := 1) (pc' := 321) K dL_law_320 (by decide) rfl ?_
  refine zw_iadd (pc' := 322) K dL_law_321 rfl ?_
  refine zw_sld (j := 4 * i + 1) (pc' := 323) K hF (nI_1 (4 * i)) (by omega) dL_law_322 rfl ?_
  refine zw_aload_n (v := .ref (ad 200 0 0)) (pc' := 324) K dL_law_323 rfl rfl rfl ?_
  refine zw_callSW (rest := []) (c' := c + 60) (n' := n + 2100) (pc' := 327) K (ct_X0_award hl hW hI (xs (4 * i + 1))) q448 q449 q21 q450 ⟨by decide, by decide, by show (parseMethodDescriptor yX0_award.desc).map (fun d => d.parameters.length) = some 3; decide +kernel⟩ rfl dL_law_324 rfl (Nat.le_of_ble_eq_true rfl) ⟨Nat.le_of_ble_eq_true rfl, Nat.le_of_ble_eq_true rfl⟩ ⟨by show c + 2 ≤ c + 60; omega, by show n + 12 ≤ n + 2100; omega, by show c + 60 ≤ 717834; omega, by show n + 2100 ≤ 6846346; omega⟩ (zw_ki fun r Ma h => ?_) zw_kn
  obtain ⟨hr, ad', h1, h2, h3, hW1⟩ := h
  subst hr
  have zm := ct_X2_award hl hW1 hI (xs (4 * i + 1))
  have hmo := hW1.mo
  rw [h2] at zm hmo
  refine zw_istore (lv' := [some (.ref b), some (.ref (ad 0 0 0)), some (.ref (ad 100 0 0)), some (.ref (ad 200 0 0)), some (.int (nI (4 * i))), some (.int ((zop_award σ (xs (4 * i + 1))).2.1)), none]) (pc' := 329) K dL_law_327 (by decide) rfl rfl ?_
  refine zw_aload_n (v := .ref (ad 100 0 0)) (pc' := 330) K dL_law_329 rfl rfl rfl ?_
  refine zw_aload_n (v := .ref b) (pc' := 331) K dL_law_330 rfl rfl rfl ?_
  refine zw_iload (x := nI (4 * i)) (pc' := 333) K dL_law_331 rfl rfl ?_
  refine zw_iconst (v := 1) (pc' := 334) K dL_law_333 (by decide) rfl ?_
  refine zw_iadd (pc' := 335) K dL_law_334 rfl ?_
  refine zw_sld (j := 4 * i + 1) (pc' := 336) K hF (nI_1 (4 * i)) (by omega) dL_law_335 rfl ?_
  refine zc_X0_95 (rest := []) (c' := c + 60) (n' := n + 2100) (pc' := 339) K (zm) hmo rfl rfl dL_law_336 rfl (Nat.le_of_ble_eq_true rfl) ⟨Nat.le_of_ble_eq_true rfl, Nat.le_of_ble_eq_true rfl⟩ ⟨by show c + 60 + 0 ≤ c + 60; omega, by show n + 2100 + 0 ≤ n + 2100; omega, by show c + 60 ≤ 717834; omega, by show n + 2100 ≤ 6846346; omega⟩ (zw_ki fun r Mb h => ?_) zw_kn
  obtain ⟨hr, hW2⟩ := h
  subst hr
  have zt := ct_X2_thrown hl hW2
  have hmo2 := hW2.mo
  have hout := hW2.mout
  rw [h2] at zt hmo2
  rw [h3] at hout
  refine zw_istore (lv' := [some (.ref b), some (.ref (ad 0 0 0)), some (.ref (ad 100 0 0)), some (.ref (ad 200 0 0)), some (.int (nI (4 * i))), some (.int ((zop_award σ (xs (4 * i + 1))).2.1)), some (.int ((zop_award σ (xs (4 * i + 1))).1))]) (pc' := 341) K dL_law_339 (by decide) rfl rfl ?_
  refine zw_aload_n (v := .ref (ad 100 0 0)) (pc' := 342) K dL_law_341 rfl rfl rfl ?_
  refine zc_X0_81 (rest := []) (c' := c + 60) (n' := n + 2100) (pc' := 345) K (zt) hmo2 rfl rfl dL_law_342 rfl (Nat.le_of_ble_eq_true rfl) ⟨Nat.le_of_ble_eq_true rfl, Nat.le_of_ble_eq_true rfl⟩ ⟨by show c + 60 + 0 ≤ c + 60; omega, by show n + 2100 + 0 ≤ n + 2100; omega, by show c + 60 ≤ 717834; omega, by show n + 2100 ≤ 6846346; omega⟩ (zw_kp ?_) zw_kn
  refine zw_iload (x := (zop_award σ (xs (4 * i + 1))).2.1) (pc' := 347) K dL_law_345 rfl rfl ?_
  refine zw_icmp_eq (tgt := 352) (pc' := 350) K dL_law_347 (by decide) rfl (fun c347 => ?_) (fun c347 => by exact absurd rfl c347)
  refine zw_iload (x := (zop_award σ (xs (4 * i + 1))).2.1) (pc' := 354) K dL_law_352 rfl rfl ?_
  refine zw_if_ne (tgt := 369) (pc' := 357) K dL_law_354 (by decide) rfl (fun c354 => ?_) (fun c354 => ?_)
  · refine zw_goto (tgt := 1240) K dL_law_369 (by decide) ?_
    refine zw_weakL (lv' := [some (.ref b), some (.ref (ad 0 0 0)), some (.ref (ad 100 0 0)), some (.ref (ad 200 0 0)), some (.int (nI (4 * i))), none, none]) (by simp [zw_le]) ?_
    exact kk Mb (zop_award σ (xs (4 * i + 1))).2.2 (zop_award σ (xs (4 * i + 1))).2.1 (if (zop_award σ (xs (4 * i + 1))).2.1 = 0 then ((zop_award σ (xs (4 * i + 1))).1).toInt64 else o) hI.o_award ⟨ad', h1, h2, h3, hW2⟩
  · refine zw_aload_n (v := .ref (ad 200 0 0)) (pc' := 358) K dL_law_357 rfl rfl rfl ?_
    refine zw_iconst (v := 0) (pc' := 359) K dL_law_358 (by decide) rfl ?_
    refine zn_lald (j := 0) (v := (((zop_award σ (xs (4 * i + 1))).1).toInt64)) (pc' := 360) K hout rfl (by decide) (by show (if (zop_award σ (xs (4 * i + 1))).2.1 = 0 then ((zop_award σ (xs (4 * i + 1))).1).toInt64 else o) = ((zop_award σ (xs (4 * i + 1))).1).toInt64; exact if_pos c354) dL_law_359 rfl ?_
    refine zw_iload (x := (zop_award σ (xs (4 * i + 1))).1) (pc' := 362) K dL_law_360 rfl rfl ?_
    refine zw_i2l (pc' := 363) K dL_law_362 rfl ?_
    refine zw_lcmp (pc' := 364) K dL_law_363 rfl ?_
    refine zw_if_eq (tgt := 369) (pc' := 367) K dL_law_364 (by decide) rfl (fun c364 => ?_) (fun c364 => by exact absurd (zcmp_self _) c364)
    refine zw_goto (tgt := 1240) K dL_law_369 (by decide) ?_
    refine zw_weakL (lv' := [some (.ref b), some (.ref (ad 0 0 0)), some (.ref (ad 100 0 0)), some (.ref (ad 200 0 0)), some (.int (nI (4 * i))), none, none]) (by simp [zw_le]) ?_
    exact kk Mb (zop_award σ (xs (4 * i + 1))).2.2 (zop_award σ (xs (4 * i + 1))).2.1 (if (zop_award σ (xs (4 * i + 1))).2.1 = 0 then ((zop_award σ (xs (4 * i + 1))).1).toInt64 else o) hI.o_award ⟨ad', h1, h2, h3, hW2⟩
set_option maxHeartbeats 2000000 in
theorem lc_passOn {X : zw_X} (K : zw_K X cL_law 7 RX0 room_1) {b L : Nat} {xs : Nat → Int32} (hF : zlF X b L xs) {M : zw_M} {c n a0 a1 a2 : Nat} {σ : zS} {th : Int32} {o : Int64} (hw : zWl (zw_Xw X) M a0 a1 a2 σ σ th o) (hI : zI σ) {i : Nat} (hi : 4 * i + 4 ≤ L) (hc : c + 60 ≤ 717834) (hn : n + 2100 ≤ 6846346)
    (kk : ∀ (M' : zw_M) (σ' : zS) (th' : Int32) (o' : Int64), zI σ' → zWl (zw_Xw X) M' a0 a1 a2 σ' σ' th' o' → zw_Z X M' (c + 60) (n + 2100) 1240 [some (.ref b), some (.ref a0), some (.ref a1), some (.ref a2), some (.int (nI (4 * i))), none, none] []) : zw_Z X M c n 372 [some (.ref b), some (.ref a0), some (.ref a1), some (.ref a2), some (.int (nI (4 * i))), none, none] [] := by
  obtain ⟨ad, rfl, rfl, rfl, hW⟩ := hw
  have hl : (zw_Xl X).stackTraces = false := K.2.2.2.2.2.2.2.2
  refine zw_aload_n (v := .ref (ad 0 0 0)) (pc' := 373) K dL_law_372 rfl rfl rfl ?_
  refine zw_aload_n (v := .ref b) (pc' := 374) K dL_law_373 rfl rfl rfl ?_
  refine zw_iload (x := nI (4 * i)) (pc' := 376) K dL_law_374 rfl rfl ?_
  refine zw_iconst (v := 1) (pc' := 377) K dL_law_376 (by decide) rfl ?_
  refine zw_iadd (pc' := 378) K dL_law_377 rfl ?_
  refine zw_sld (j := 4 * i + 1) (pc' := 379) K hF (nI_1 (4 * i)) (by omega) dL_law_378 rfl ?_
  refine zw_aload_n (v := .ref b) (pc' := 380) K dL_law_379 rfl rfl rfl ?_
  refine zw_iload (x := nI (4 * i)) (pc' := 382) K dL_law_380 rfl rfl ?_
  refine zw_iconst (v := 2) (pc' := 383) K dL_law_382 (by decide) rfl ?_
  refine zw_iadd (pc' := 384) K dL_law_383 rfl ?_
  refine zw_sld (j := 4 * i + 2) (pc' := 385) K hF (zad_2 (4 * i)) (by omega) dL_law_384 rfl ?_
  refine zw_aload_n (v := .ref b) (pc' := 386) K dL_law_385 rfl rfl rfl ?_
  refine zw_iload (x := nI (4 * i)) (pc' := 388) K dL_law_386 rfl rfl ?_
  refine zw_iconst (v := 3) (pc' := 389) K dL_law_388 (by decide) rfl ?_
  refine zw_iadd (pc' := 390) K dL_law_389 rfl ?_
  refine zw_sld (j := 4 * i + 3) (pc' := 391) K hF (zad_3 (4 * i)) (by omega) dL_law_390 rfl ?_
  refine zw_aload_n (v := .ref (ad 200 0 0)) (pc' := 392) K dL_law_391 rfl rfl rfl ?_
  refine zw_callSW (rest := []) (c' := c + 60) (n' := n + 2100) (pc' := 395) K (ct_X0_passOn hl hW hI (xs (4 * i + 1)) (xs (4 * i + 2)) (xs (4 * i + 3))) q460 q461 q21 q462 ⟨by decide, by decide, by show (parseMethodDescriptor yX0_passOn.desc).map (fun d => d.parameters.length) = some 5; decide +kernel⟩ rfl dL_law_392 rfl (Nat.le_of_ble_eq_true rfl) ⟨Nat.le_of_ble_eq_true rfl, Nat.le_of_ble_eq_true rfl⟩ ⟨by show c + 5 ≤ c + 60; omega, by show n + 30 ≤ n + 2100; omega, by show c + 60 ≤ 717834; omega, by show n + 2100 ≤ 6846346; omega⟩ (zw_ki fun r Ma h => ?_) zw_kn
  obtain ⟨hr, ad', h1, h2, h3, hW1⟩ := h
  subst hr
  have zm := ct_X2_passOn hl hW1 hI (xs (4 * i + 1)) (xs (4 * i + 2)) (xs (4 * i + 3))
  have hmo := hW1.mo
  rw [h2] at zm hmo
  refine zw_istore (lv' := [some (.ref b), some (.ref (ad 0 0 0)), some (.ref (ad 100 0 0)), some (.ref (ad 200 0 0)), some (.int (nI (4 * i))), some (.int ((zop_passOn σ (xs (4 * i + 1)) (xs (4 * i + 2)) (xs (4 * i + 3))).2.1)), none]) (pc' := 397) K dL_law_395 (by decide) rfl rfl ?_
  refine zw_aload_n (v := .ref (ad 100 0 0)) (pc' := 398) K dL_law_397 rfl rfl rfl ?_
  refine zw_aload_n (v := .ref b) (pc' := 399) K dL_law_398 rfl rfl rfl ?_
  refine zw_iload (x := nI (4 * i)) (pc' := 401) K dL_law_399 rfl rfl ?_
  refine zw_iconst (v := 1) (pc' := 402) K dL_law_401 (by decide) rfl ?_
  refine zw_iadd (pc' := 403) K dL_law_402 rfl ?_
  refine zw_sld (j := 4 * i + 1) (pc' := 404) K hF (nI_1 (4 * i)) (by omega) dL_law_403 rfl ?_
  refine zw_aload_n (v := .ref b) (pc' := 405) K dL_law_404 rfl rfl rfl ?_
  refine zw_iload (x := nI (4 * i)) (pc' := 407) K dL_law_405 rfl rfl ?_
  refine zw_iconst (v := 2) (pc' := 408) K dL_law_407 (by decide) rfl ?_
  refine zw_iadd (pc' := 409) K dL_law_408 rfl ?_
  refine zw_sld (j := 4 * i + 2) (pc' := 410) K hF (zad_2 (4 * i)) (by omega) dL_law_409 rfl ?_
  refine zw_aload_n (v := .ref b) (pc' := 411) K dL_law_410 rfl rfl rfl ?_
  refine zw_iload (x := nI (4 * i)) (pc' := 413) K dL_law_411 rfl rfl ?_
  refine zw_iconst (v := 3) (pc' := 414) K dL_law_413 (by decide) rfl ?_
  refine zw_iadd (pc' := 415) K dL_law_414 rfl ?_
  refine zw_sld (j := 4 * i + 3) (pc' := 416) K hF (zad_3 (4 * i)) (by omega) dL_law_415 rfl ?_
  refine zc_X0_98 (rest := []) (c' := c + 60) (n' := n + 2100) (pc' := 419) K (zm) hmo rfl rfl dL_law_416 rfl (Nat.le_of_ble_eq_true rfl) ⟨Nat.le_of_ble_eq_true rfl, Nat.le_of_ble_eq_true rfl⟩ ⟨by show c + 60 + 0 ≤ c + 60; omega, by show n + 2100 + 0 ≤ n + 2100; omega, by show c + 60 ≤ 717834; omega, by show n + 2100 ≤ 6846346; omega⟩ (zw_ki fun r Mb h => ?_) zw_kn
  obtain ⟨hr, hW2⟩ := h
  subst hr
  have zt := ct_X2_thrown hl hW2
  have hmo2 := hW2.mo
  have hout := hW2.mout
  rw [h2] at zt hmo2
  rw [h3] at hout
  refine zw_istore (lv' := [some (.ref b), some (.ref (ad 0 0 0)), some (.ref (ad 100 0 0)), some (.ref (ad 200 0 0)), some (.int (nI (4 * i))), some (.int ((zop_passOn σ (xs (4 * i + 1)) (xs (4 * i + 2)) (xs (4 * i + 3))).2.1)), some (.int ((zop_passOn σ (xs (4 * i + 1)) (xs (4 * i + 2)) (xs (4 * i + 3))).1))]) (pc' := 421) K dL_law_419 (by decide) rfl rfl ?_
  refine zw_aload_n (v := .ref (ad 100 0 0)) (pc' := 422) K dL_law_421 rfl rfl rfl ?_
  refine zc_X0_81 (rest := []) (c' := c + 60) (n' := n + 2100) (pc' := 425) K (zt) hmo2 rfl rfl dL_law_422 rfl (Nat.le_of_ble_eq_true rfl) ⟨Nat.le_of_ble_eq_true rfl, Nat.le_of_ble_eq_true rfl⟩ ⟨by show c + 60 + 0 ≤ c + 60; omega, by show n + 2100 + 0 ≤ n + 2100; omega, by show c + 60 ≤ 717834; omega, by show n + 2100 ≤ 6846346; omega⟩ (zw_kp ?_) zw_kn
  refine zw_iload (x := (zop_passOn σ (xs (4 * i + 1)) (xs (4 * i + 2)) (xs (4 * i + 3))).2.1) (pc' := 427) K dL_law_425 rfl rfl ?_
  refine zw_icmp_eq (tgt := 432) (pc' := 430) K dL_law_427 (by decide) rfl (fun c427 => ?_) (fun c427 => by exact absurd rfl c427)
  refine zw_iload (x := (zop_passOn σ (xs (4 * i + 1)) (xs (4 * i + 2)) (xs (4 * i + 3))).2.1) (pc' := 434) K dL_law_432 rfl rfl ?_
  refine zw_if_ne (tgt := 449) (pc' := 437) K dL_law_434 (by decide) rfl (fun c434 => ?_) (fun c434 => ?_)
  · refine zw_goto (tgt := 1240) K dL_law_449 (by decide) ?_
    refine zw_weakL (lv' := [some (.ref b), some (.ref (ad 0 0 0)), some (.ref (ad 100 0 0)), some (.ref (ad 200 0 0)), some (.int (nI (4 * i))), none, none]) (by simp [zw_le]) ?_
    exact kk Mb (zop_passOn σ (xs (4 * i + 1)) (xs (4 * i + 2)) (xs (4 * i + 3))).2.2 (zop_passOn σ (xs (4 * i + 1)) (xs (4 * i + 2)) (xs (4 * i + 3))).2.1 (if (zop_passOn σ (xs (4 * i + 1)) (xs (4 * i + 2)) (xs (4 * i + 3))).2.1 = 0 then ((zop_passOn σ (xs (4 * i + 1)) (xs (4 * i + 2)) (xs (4 * i + 3))).1).toInt64 else o) hI.o_passOn ⟨ad', h1, h2, h3, hW2⟩
  · refine zw_aload_n (v := .ref (ad 200 0 0)) (pc' := 438) K dL_law_437 rfl rfl rfl ?_
    refine zw_iconst (v := 0) (pc' := 439) K dL_law_438 (by decide) rfl ?_
    refine zn_lald (j := 0) (v := (((zop_passOn σ (xs (4 * i + 1)) (xs (4 * i + 2)) (xs (4 * i + 3))).1).toInt64)) (pc' := 440) K hout rfl (by decide) (by show (if (zop_passOn σ (xs (4 * i + 1)) (xs (4 * i + 2)) (xs (4 * i + 3))).2.1 = 0 then ((zop_passOn σ (xs (4 * i + 1)) (xs (4 * i + 2)) (xs (4 * i + 3))).1).toInt64 else o) = ((zop_passOn σ (xs (4 * i + 1)) (xs (4 * i + 2)) (xs (4 * i + 3))).1).toInt64; exact if_pos c434) dL_law_439 rfl ?_
    refine zw_iload (x := (zop_passOn σ (xs (4 * i + 1)) (xs (4 * i + 2)) (xs (4 * i + 3))).1) (pc' := 442) K dL_law_440 rfl rfl ?_
    refine zw_i2l (pc' := 443) K dL_law_442 rfl ?_
    refine zw_lcmp (pc' := 444) K dL_law_443 rfl ?_
    refine zw_if_eq (tgt := 449) (pc' := 447) K dL_law_444 (by decide) rfl (fun c444 => ?_) (fun c444 => by exact absurd (zcmp_self _) c444)
    refine zw_goto (tgt := 1240) K dL_law_449 (by decide) ?_
    refine zw_weakL (lv' := [some (.ref b), some (.ref (ad 0 0 0)), some (.ref (ad 100 0 0)), some (.ref (ad 200 0 0)), some (.int (nI (4 * i))), none, none]) (by simp [zw_le]) ?_
    exact kk Mb (zop_passOn σ (xs (4 * i + 1)) (xs (4 * i + 2)) (xs (4 * i + 3))).2.2 (zop_passOn σ (xs (4 * i + 1)) (xs (4 * i + 2)) (xs (4 * i + 3))).2.1 (if (zop_passOn σ (xs (4 * i + 1)) (xs (4 * i + 2)) (xs (4 * i + 3))).2.1 = 0 then ((zop_passOn σ (xs (4 * i + 1)) (xs (4 * i + 2)) (xs (4 * i + 3))).1).toInt64 else o) hI.o_passOn ⟨ad', h1, h2, h3, hW2⟩
set_option maxHeartbeats 2000000 in
theorem lc_turnover {X : zw_X} (K : zw_K X cL_law 7 RX0 room_1) {b L : Nat} {xs : Nat → Int32} (hF : zlF X b L xs) {M : zw_M} {c n a0 a1 a2 : Nat} {σ : zS} {th : Int32} {o : Int64} (hw : zWl (zw_Xw X) M a0 a1 a2 σ σ th o) (hI : zI σ) {i : Nat} (hi : 4 * i + 4 ≤ L) (hc : c + 60 ≤ 717834) (hn : n + 2100 ≤ 6846346)
    (kk : ∀ (M' : zw_M) (σ' : zS) (th' : Int32) (o' : Int64), zI σ' → zWl (zw_Xw X) M' a0 a1 a2 σ' σ' th' o' → zw_Z X M' (c + 60) (n + 2100) 1240 [some (.ref b), some (.ref a0), some (.ref a1), some (.ref a2), some (.int (nI (4 * i))), none, none] []) : zw_Z X M c n 452 [some (.ref b), some (.ref a0), some (.ref a1), some (.ref a2), some (.int (nI (4 * i))), none, none] [] := by
  obtain ⟨ad, rfl, rfl, rfl, hW⟩ := hw
  have hl : (zw_Xl X).stackTraces = false := K.2.2.2.2.2.2.2.2
  refine zw_aload_n (v := .ref (ad 0 0 0)) (pc' := 453) K dL_law_452 rfl rfl rfl ?_
  refine zw_aload_n (v := .ref b) (pc' := 454) K dL_law_453 rfl rfl rfl ?_
  refine zw_iload (x := nI (4 * i)) (pc' := 456) K dL_law_454 rfl rfl ?_
  refine zw_iconst (v := 1) (pc' := 457) K dL_law_456 (by decide) rfl ?_
  refine zw_iadd (pc' := 458) K dL_law_457 rfl ?_
  refine zw_sld (j := 4 * i + 1) (pc' := 459) K hF (nI_1 (4 * i)) (by omega) dL_law_458 rfl ?_
  refine zw_aload_n (v := .ref (ad 200 0 0)) (pc' := 460) K dL_law_459 rfl rfl rfl ?_
  refine zw_callSW (rest := []) (c' := c + 60) (n' := n + 2100) (pc' := 463) K (ct_X0_turnover hl hW hI (xs (4 * i + 1))) q468 q469 q21 q470 ⟨by decide, by decide, by show (parseMethodDescriptor yX0_turnover.desc).map (fun d => d.parameters.length) = some 3; decide +kernel⟩ rfl dL_law_460 rfl (Nat.le_of_ble_eq_true rfl) ⟨Nat.le_of_ble_eq_true rfl, Nat.le_of_ble_eq_true rfl⟩ ⟨by show c + 2 ≤ c + 60; omega, by show n + 7 ≤ n + 2100; omega, by show c + 60 ≤ 717834; omega, by show n + 2100 ≤ 6846346; omega⟩ (zw_ki fun r Ma h => ?_) zw_kn
  obtain ⟨hr, ad', h1, h2, h3, hW1⟩ := h
  subst hr
  have zm := ct_X2_turnover hl hW1 hI (xs (4 * i + 1))
  have hmo := hW1.mo
  rw [h2] at zm hmo
  refine zw_istore (lv' := [some (.ref b), some (.ref (ad 0 0 0)), some (.ref (ad 100 0 0)), some (.ref (ad 200 0 0)), some (.int (nI (4 * i))), some (.int ((zop_turnover σ (xs (4 * i + 1))).2.1)), none]) (pc' := 465) K dL_law_463 (by decide) rfl rfl ?_
  refine zw_aload_n (v := .ref (ad 100 0 0)) (pc' := 466) K dL_law_465 rfl rfl rfl ?_
  refine zw_aload_n (v := .ref b) (pc' := 467) K dL_law_466 rfl rfl rfl ?_
  refine zw_iload (x := nI (4 * i)) (pc' := 469) K dL_law_467 rfl rfl ?_
  refine zw_iconst (v := 1) (pc' := 470) K dL_law_469 (by decide) rfl ?_
  refine zw_iadd (pc' := 471) K dL_law_470 rfl ?_
  refine zw_sld (j := 4 * i + 1) (pc' := 472) K hF (nI_1 (4 * i)) (by omega) dL_law_471 rfl ?_
  refine zc_X0_101 (rest := []) (c' := c + 60) (n' := n + 2100) (pc' := 475) K (zm) hmo rfl rfl dL_law_472 rfl (Nat.le_of_ble_eq_true rfl) ⟨Nat.le_of_ble_eq_true rfl, Nat.le_of_ble_eq_true rfl⟩ ⟨by show c + 60 + 0 ≤ c + 60; omega, by show n + 2100 + 0 ≤ n + 2100; omega, by show c + 60 ≤ 717834; omega, by show n + 2100 ≤ 6846346; omega⟩ (zw_ki fun r Mb h => ?_) zw_kn
  obtain ⟨hr, hW2⟩ := h
  subst hr
  have zt := ct_X2_thrown hl hW2
  have hmo2 := hW2.mo
  have hout := hW2.mout
  rw [h2] at zt hmo2
  rw [h3] at hout
  refine zw_istore (lv' := [some (.ref b), some (.ref (ad 0 0 0)), some (.ref (ad 100 0 0)), some (.ref (ad 200 0 0)), some (.int (nI (4 * i))), some (.int ((zop_turnover σ (xs (4 * i + 1))).2.1)), some (.int ((zop_turnover σ (xs (4 * i + 1))).1))]) (pc' := 477) K dL_law_475 (by decide) rfl rfl ?_
  refine zw_aload_n (v := .ref (ad 100 0 0)) (pc' := 478) K dL_law_477 rfl rfl rfl ?_
  refine zc_X0_81 (rest := []) (c' := c + 60) (n' := n + 2100) (pc' := 481) K (zt) hmo2 rfl rfl dL_law_478 rfl (Nat.le_of_ble_eq_true rfl) ⟨Nat.le_of_ble_eq_true rfl, Nat.le_of_ble_eq_true rfl⟩ ⟨by show c + 60 + 0 ≤ c + 60; omega, by show n + 2100 + 0 ≤ n + 2100; omega, by show c + 60 ≤ 717834; omega, by show n + 2100 ≤ 6846346; omega⟩ (zw_kp ?_) zw_kn
  refine zw_iload (x := (zop_turnover σ (xs (4 * i + 1))).2.1) (pc' := 483) K dL_law_481 rfl rfl ?_
  refine zw_icmp_eq (tgt := 488) (pc' := 486) K dL_law_483 (by decide) rfl (fun c483 => ?_) (fun c483 => by exact absurd rfl c483)
  refine zw_iload (x := (zop_turnover σ (xs (4 * i + 1))).2.1) (pc' := 490) K dL_law_488 rfl rfl ?_
  refine zw_if_ne (tgt := 505) (pc' := 493) K dL_law_490 (by decide) rfl (fun c490 => ?_) (fun c490 => ?_)
  · refine zw_goto (tgt := 1240) K dL_law_505 (by decide) ?_
    refine zw_weakL (lv' := [some (.ref b), some (.ref (ad 0 0 0)), some (.ref (ad 100 0 0)), some (.ref (ad 200 0 0)), some (.int (nI (4 * i))), none, none]) (by simp [zw_le]) ?_
    exact kk Mb (zop_turnover σ (xs (4 * i + 1))).2.2 (zop_turnover σ (xs (4 * i + 1))).2.1 (if (zop_turnover σ (xs (4 * i + 1))).2.1 = 0 then ((zop_turnover σ (xs (4 * i + 1))).1).toInt64 else o) hI.o_turnover ⟨ad', h1, h2, h3, hW2⟩
  · refine zw_aload_n (v := .ref (ad 200 0 0)) (pc' := 494) K dL_law_493 rfl rfl rfl ?_
    refine zw_iconst (v := 0) (pc' := 495) K dL_law_494 (by decide) rfl ?_
    refine zn_lald (j := 0) (v := (((zop_turnover σ (xs (4 * i + 1))).1).toInt64)) (pc' := 496) K hout rfl (by decide) (by show (if (zop_turnover σ (xs (4 * i + 1))).2.1 = 0 then ((zop_turnover σ (xs (4 * i + 1))).1).toInt64 else o) = ((zop_turnover σ (xs (4 * i + 1))).1).toInt64; exact if_pos c490) dL_law_495 rfl ?_
    refine zw_iload (x := (zop_turnover σ (xs (4 * i + 1))).1) (pc' := 498) K dL_law_496 rfl rfl ?_
    refine zw_i2l (pc' := 499) K dL_law_498 rfl ?_
    refine zw_lcmp (pc' := 500) K dL_law_499 rfl ?_
    refine zw_if_eq (tgt := 505) (pc' := 503) K dL_law_500 (by decide) rfl (fun c500 => ?_) (fun c500 => by exact absurd (zcmp_self _) c500)
    refine zw_goto (tgt := 1240) K dL_law_505 (by decide) ?_
    refine zw_weakL (lv' := [some (.ref b), some (.ref (ad 0 0 0)), some (.ref (ad 100 0 0)), some (.ref (ad 200 0 0)), some (.int (nI (4 * i))), none, none]) (by simp [zw_le]) ?_
    exact kk Mb (zop_turnover σ (xs (4 * i + 1))).2.2 (zop_turnover σ (xs (4 * i + 1))).2.1 (if (zop_turnover σ (xs (4 * i + 1))).2.1 = 0 then ((zop_turnover σ (xs (4 * i + 1))).1).toInt64 else o) hI.o_turnover ⟨ad', h1, h2, h3, hW2⟩
set_option maxHeartbeats 2000000 in
theorem lc_won {X : zw_X} (K : zw_K X cL_law 7 RX0 room_1) {b L : Nat} {xs : Nat → Int32} (hF : zlF X b L xs) {M : zw_M} {c n a0 a1 a2 : Nat} {σ : zS} {th : Int32} {o : Int64} (hw : zWl (zw_Xw X) M a0 a1 a2 σ σ th o) (hI : zI σ) {i : Nat} (hi : 4 * i + 4 ≤ L) (hc : c + 60 ≤ 717834) (hn : n + 2100 ≤ 6846346)
    (kk : ∀ (M' : zw_M) (σ' : zS) (th' : Int32) (o' : Int64), zI σ' → zWl (zw_Xw X) M' a0 a1 a2 σ' σ' th' o' → zw_Z X M' (c + 60) (n + 2100) 1240 [some (.ref b), some (.ref a0), some (.ref a1), some (.ref a2), some (.int (nI (4 * i))), none, none] []) : zw_Z X M c n 508 [some (.ref b), some (.ref a0), some (.ref a1), some (.ref a2), some (.int (nI (4 * i))), none, none] [] := by
  obtain ⟨ad, rfl, rfl, rfl, hW⟩ := hw
  have hl : (zw_Xl X).stackTraces = false := K.2.2.2.2.2.2.2.2
  refine zw_aload_n (v := .ref (ad 0 0 0)) (pc' := 509) K dL_law_508 rfl rfl rfl ?_
  refine zw_aload_n (v := .ref b) (pc' := 510) K dL_law_509 rfl rfl rfl ?_
  refine zw_iload (x := nI (4 * i)) (pc' := 512) K dL_law_510 rfl rfl ?_
  refine zw_iconst (v := 1) (pc' := 513) K dL_law_512 (by decide) rfl ?_
  refine zw_iadd (pc' := 514) K dL_law_513 rfl ?_
  refine zw_sld (j := 4 * i + 1) (pc' := 515) K hF (nI_1 (4 * i)) (by omega) dL_law_514 rfl ?_
  refine zw_aload_n (v := .ref (ad 200 0 0)) (pc' := 516) K dL_law_515 rfl rfl rfl ?_
  refine zw_callSW (rest := []) (c' := c + 60) (n' := n + 2100) (pc' := 519) K (ct_X0_won hl hW hI (xs (4 * i + 1))) q493 q494 q21 q495 ⟨by decide, by decide, by show (parseMethodDescriptor yX0_won.desc).map (fun d => d.parameters.length) = some 3; decide +kernel⟩ rfl dL_law_516 rfl (Nat.le_of_ble_eq_true rfl) ⟨Nat.le_of_ble_eq_true rfl, Nat.le_of_ble_eq_true rfl⟩ ⟨by show c + 2 ≤ c + 60; omega, by show n + 7 ≤ n + 2100; omega, by show c + 60 ≤ 717834; omega, by show n + 2100 ≤ 6846346; omega⟩ (zw_ki fun r Ma h => ?_) zw_kn
  obtain ⟨hr, ad', h1, h2, h3, hW1⟩ := h
  subst hr
  have zm := ct_X2_won hl hW1 hI (xs (4 * i + 1))
  have hmo := hW1.mo
  rw [h2] at zm hmo
  refine zw_istore (lv' := [some (.ref b), some (.ref (ad 0 0 0)), some (.ref (ad 100 0 0)), some (.ref (ad 200 0 0)), some (.int (nI (4 * i))), some (.int ((zop_won σ (xs (4 * i + 1))).2.1)), none]) (pc' := 521) K dL_law_519 (by decide) rfl rfl ?_
  refine zw_aload_n (v := .ref (ad 100 0 0)) (pc' := 522) K dL_law_521 rfl rfl rfl ?_
  refine zw_aload_n (v := .ref b) (pc' := 523) K dL_law_522 rfl rfl rfl ?_
  refine zw_iload (x := nI (4 * i)) (pc' := 525) K dL_law_523 rfl rfl ?_
  refine zw_iconst (v := 1) (pc' := 526) K dL_law_525 (by decide) rfl ?_
  refine zw_iadd (pc' := 527) K dL_law_526 rfl ?_
  refine zw_sld (j := 4 * i + 1) (pc' := 528) K hF (nI_1 (4 * i)) (by omega) dL_law_527 rfl ?_
  refine zc_X0_104 (rest := []) (c' := c + 60) (n' := n + 2100) (pc' := 531) K (zm) hmo rfl rfl dL_law_528 rfl (Nat.le_of_ble_eq_true rfl) ⟨Nat.le_of_ble_eq_true rfl, Nat.le_of_ble_eq_true rfl⟩ ⟨by show c + 60 + 0 ≤ c + 60; omega, by show n + 2100 + 0 ≤ n + 2100; omega, by show c + 60 ≤ 717834; omega, by show n + 2100 ≤ 6846346; omega⟩ (zw_ki fun r Mb h => ?_) zw_kn
  obtain ⟨hr, hW2⟩ := h
  subst hr
  have zt := ct_X2_thrown hl hW2
  have hmo2 := hW2.mo
  have hout := hW2.mout
  rw [h2] at zt hmo2
  rw [h3] at hout
  refine zw_istore (lv' := [some (.ref b), some (.ref (ad 0 0 0)), some (.ref (ad 100 0 0)), some (.ref (ad 200 0 0)), some (.int (nI (4 * i))), some (.int ((zop_won σ (xs (4 * i + 1))).2.1)), some (.int ((zop_won σ (xs (4 * i + 1))).1))]) (pc' := 533) K dL_law_531 (by decide) rfl rfl ?_
  refine zw_aload_n (v := .ref (ad 100 0 0)) (pc' := 534) K dL_law_533 rfl rfl rfl ?_
  refine zc_X0_81 (rest := []) (c' := c + 60) (n' := n + 2100) (pc' := 537) K (zt) hmo2 rfl rfl dL_law_534 rfl (Nat.le_of_ble_eq_true rfl) ⟨Nat.le_of_ble_eq_true rfl, Nat.le_of_ble_eq_true rfl⟩ ⟨by show c + 60 + 0 ≤ c + 60; omega, by show n + 2100 + 0 ≤ n + 2100; omega, by show c + 60 ≤ 717834; omega, by show n + 2100 ≤ 6846346; omega⟩ (zw_kp ?_) zw_kn
  refine zw_iload (x := (zop_won σ (xs (4 * i + 1))).2.1) (pc' := 539) K dL_law_537 rfl rfl ?_
  refine zw_icmp_eq (tgt := 544) (pc' := 542) K dL_law_539 (by decide) rfl (fun c539 => ?_) (fun c539 => by exact absurd rfl c539)
  refine zw_iload (x := (zop_won σ (xs (4 * i + 1))).2.1) (pc' := 546) K dL_law_544 rfl rfl ?_
  refine zw_if_ne (tgt := 561) (pc' := 549) K dL_law_546 (by decide) rfl (fun c546 => ?_) (fun c546 => ?_)
  · refine zw_goto (tgt := 1240) K dL_law_561 (by decide) ?_
    refine zw_weakL (lv' := [some (.ref b), some (.ref (ad 0 0 0)), some (.ref (ad 100 0 0)), some (.ref (ad 200 0 0)), some (.int (nI (4 * i))), none, none]) (by simp [zw_le]) ?_
    exact kk Mb (zop_won σ (xs (4 * i + 1))).2.2 (zop_won σ (xs (4 * i + 1))).2.1 (if (zop_won σ (xs (4 * i + 1))).2.1 = 0 then ((zop_won σ (xs (4 * i + 1))).1).toInt64 else o) hI.o_won ⟨ad', h1, h2, h3, hW2⟩
  · refine zw_aload_n (v := .ref (ad 200 0 0)) (pc' := 550) K dL_law_549 rfl rfl rfl ?_
    refine zw_iconst (v := 0) (pc' := 551) K dL_law_550 (by decide) rfl ?_
    refine zn_lald (j := 0) (v := (((zop_won σ (xs (4 * i + 1))).1).toInt64)) (pc' := 552) K hout rfl (by decide) (by show (if (zop_won σ (xs (4 * i + 1))).2.1 = 0 then ((zop_won σ (xs (4 * i + 1))).1).toInt64 else o) = ((zop_won σ (xs (4 * i + 1))).1).toInt64; exact if_pos c546) dL_law_551 rfl ?_
    refine zw_iload (x := (zop_won σ (xs (4 * i + 1))).1) (pc' := 554) K dL_law_552 rfl rfl ?_
    refine zw_i2l (pc' := 555) K dL_law_554 rfl ?_
    refine zw_lcmp (pc' := 556) K dL_law_555 rfl ?_
    refine zw_if_eq (tgt := 561) (pc' := 559) K dL_law_556 (by decide) rfl (fun c556 => ?_) (fun c556 => by exact absurd (zcmp_self _) c556)
    refine zw_goto (tgt := 1240) K dL_law_561 (by decide) ?_
    refine zw_weakL (lv' := [some (.ref b), some (.ref (ad 0 0 0)), some (.ref (ad 100 0 0)), some (.ref (ad 200 0 0)), some (.int (nI (4 * i))), none, none]) (by simp [zw_le]) ?_
    exact kk Mb (zop_won σ (xs (4 * i + 1))).2.2 (zop_won σ (xs (4 * i + 1))).2.1 (if (zop_won σ (xs (4 * i + 1))).2.1 = 0 then ((zop_won σ (xs (4 * i + 1))).1).toInt64 else o) hI.o_won ⟨ad', h1, h2, h3, hW2⟩
set_option maxHeartbeats 2000000 in
theorem lc_suspicion {X : zw_X} (K : zw_K X cL_law 7 RX0 room_1) {b L : Nat} {xs : Nat → Int32} (hF : zlF X b L xs) {M : zw_M} {c n a0 a1 a2 : Nat} {σ : zS} {th : Int32} {o : Int64} (hw : zWl (zw_Xw X) M a0 a1 a2 σ σ th o) (hI : zI σ) {i : Nat} (hi : 4 * i + 4 ≤ L) (hc : c + 60 ≤ 717834) (hn : n + 2100 ≤ 6846346)
    (kk : ∀ (M' : zw_M) (σ' : zS) (th' : Int32) (o' : Int64), zI σ' → zWl (zw_Xw X) M' a0 a1 a2 σ' σ' th' o' → zw_Z X M' (c + 60) (n + 2100) 1240 [some (.ref b), some (.ref a0), some (.ref a1), some (.ref a2), some (.int (nI (4 * i))), none, none] []) : zw_Z X M c n 564 [some (.ref b), some (.ref a0), some (.ref a1), some (.ref a2), some (.int (nI (4 * i))), none, none] [] := by
  obtain ⟨ad, rfl, rfl, rfl, hW⟩ := hw
  have hl : (zw_Xl X).stackTraces = false := K.2.2.2.2.2.2.2.2
  refine zw_aload_n (v := .ref (ad 0 0 0)) (pc' := 565) K dL_law_564 rfl rfl rfl ?_
  refine zw_aload_n (v := .ref b) (pc' := 566) K dL_law_565 rfl rfl rfl ?_
  refine zw_iload (x := nI (4 * i)) (pc' := 568) K dL_law_566 rfl rfl ?_
  refine zw_iconst (v := 1) (pc' := 569) K dL_law_568 (by decide) rfl ?_
  refine zw_iadd (pc' := 570) K dL_law_569 rfl ?_
  refine zw_sld (j := 4 * i + 1) (pc' := 571) K hF (nI_1 (4 * i)) (by omega) dL_law_570 rfl ?_
  refine zw_aload_n (v := .ref b) (pc' := 572) K dL_law_571 rfl rfl rfl ?_
  refine zw_iload (x := nI (4 * i)) (pc' := 574) K dL_law_572 rfl rfl ?_
  refine zw_iconst (v := 2) (pc' := 575) K dL_law_574 (by decide) rfl ?_
  refine zw_iadd (pc' := 576) K dL_law_575 rfl ?_
  refine zw_sld (j := 4 * i + 2) (pc' := 577) K hF (zad_2 (4 * i)) (by omega) dL_law_576 rfl ?_
  refine zw_aload_n (v := .ref (ad 200 0 0)) (pc' := 578) K dL_law_577 rfl rfl rfl ?_
  refine zw_callSW (rest := []) (c' := c + 60) (n' := n + 2100) (pc' := 581) K (ct_X0_suspicion hl hW hI (xs (4 * i + 1)) (xs (4 * i + 2))) q502 q503 q21 q504 ⟨by decide, by decide, by show (parseMethodDescriptor yX0_suspicion.desc).map (fun d => d.parameters.length) = some 4; decide +kernel⟩ rfl dL_law_578 rfl (Nat.le_of_ble_eq_true rfl) ⟨Nat.le_of_ble_eq_true rfl, Nat.le_of_ble_eq_true rfl⟩ ⟨by show c + 3 ≤ c + 60; omega, by show n + 18 ≤ n + 2100; omega, by show c + 60 ≤ 717834; omega, by show n + 2100 ≤ 6846346; omega⟩ (zw_ki fun r Ma h => ?_) zw_kn
  obtain ⟨hr, ad', h1, h2, h3, hW1⟩ := h
  subst hr
  have zm := ct_X2_suspicion hl hW1 hI (xs (4 * i + 1)) (xs (4 * i + 2))
  have hmo := hW1.mo
  rw [h2] at zm hmo
  refine zw_istore (lv' := [some (.ref b), some (.ref (ad 0 0 0)), some (.ref (ad 100 0 0)), some (.ref (ad 200 0 0)), some (.int (nI (4 * i))), some (.int ((zop_suspicion σ (xs (4 * i + 1)) (xs (4 * i + 2))).2.1)), none]) (pc' := 583) K dL_law_581 (by decide) rfl rfl ?_
  refine zw_aload_n (v := .ref (ad 100 0 0)) (pc' := 584) K dL_law_583 rfl rfl rfl ?_
  refine zw_aload_n (v := .ref b) (pc' := 585) K dL_law_584 rfl rfl rfl ?_
  refine zw_iload (x := nI (4 * i)) (pc' := 587) K dL_law_585 rfl rfl ?_
  refine zw_iconst (v := 1) (pc' := 588) K dL_law_587 (by decide) rfl ?_
  refine zw_iadd (pc' := 589) K dL_law_588 rfl ?_
  refine zw_sld (j := 4 * i + 1) (pc' := 590) K hF (nI_1 (4 * i)) (by omega) dL_law_589 rfl ?_
  refine zw_aload_n (v := .ref b) (pc' := 591) K dL_law_590 rfl rfl rfl ?_
  refine zw_iload (x := nI (4 * i)) (pc' := 593) K dL_law_591 rfl rfl ?_
  refine zw_iconst (v := 2) (pc' := 594) K dL_law_593 (by decide) rfl ?_
  refine zw_iadd (pc' := 595) K dL_law_594 rfl ?_
  refine zw_sld (j := 4 * i + 2) (pc' := 596) K hF (zad_2 (4 * i)) (by omega) dL_law_595 rfl ?_
  refine zc_X0_107 (rest := []) (c' := c + 60) (n' := n + 2100) (pc' := 599) K (zm) hmo rfl rfl dL_law_596 rfl (Nat.le_of_ble_eq_true rfl) ⟨Nat.le_of_ble_eq_true rfl, Nat.le_of_ble_eq_true rfl⟩ ⟨by show c + 60 + 0 ≤ c + 60; omega, by show n + 2100 + 0 ≤ n + 2100; omega, by show c + 60 ≤ 717834; omega, by show n + 2100 ≤ 6846346; omega⟩ (zw_ki fun r Mb h => ?_) zw_kn
  obtain ⟨hr, hW2⟩ := h
  subst hr
  have zt := ct_X2_thrown hl hW2
  have hmo2 := hW2.mo
  have hout := hW2.mout
  rw [h2] at zt hmo2
  rw [h3] at hout
  refine zw_istore (lv' := [some (.ref b), some (.ref (ad 0 0 0)), some (.ref (ad 100 0 0)), some (.ref (ad 200 0 0)), some (.int (nI (4 * i))), some (.int ((zop_suspicion σ (xs (4 * i + 1)) (xs (4 * i + 2))).2.1)), some (.int ((zop_suspicion σ (xs (4 * i + 1)) (xs (4 * i + 2))).1))]) (pc' := 601) K dL_law_599 (by decide) rfl rfl ?_
  refine zw_aload_n (v := .ref (ad 100 0 0)) (pc' := 602) K dL_law_601 rfl rfl rfl ?_
  refine zc_X0_81 (rest := []) (c' := c + 60) (n' := n + 2100) (pc' := 605) K (zt) hmo2 rfl rfl dL_law_602 rfl (Nat.le_of_ble_eq_true rfl) ⟨Nat.le_of_ble_eq_true rfl, Nat.le_of_ble_eq_true rfl⟩ ⟨by show c + 60 + 0 ≤ c + 60; omega, by show n + 2100 + 0 ≤ n + 2100; omega, by show c + 60 ≤ 717834; omega, by show n + 2100 ≤ 6846346; omega⟩ (zw_kp ?_) zw_kn
  refine zw_iload (x := (zop_suspicion σ (xs (4 * i + 1)) (xs (4 * i + 2))).2.1) (pc' := 607) K dL_law_605 rfl rfl ?_
  refine zw_icmp_eq (tgt := 612) (pc' := 610) K dL_law_607 (by decide) rfl (fun c607 => ?_) (fun c607 => by exact absurd rfl c607)
  refine zw_iload (x := (zop_suspicion σ (xs (4 * i + 1)) (xs (4 * i + 2))).2.1) (pc' := 614) K dL_law_612 rfl rfl ?_
  refine zw_if_ne (tgt := 629) (pc' := 617) K dL_law_614 (by decide) rfl (fun c614 => ?_) (fun c614 => ?_)
  · refine zw_goto (tgt := 1240) K dL_law_629 (by decide) ?_
    refine zw_weakL (lv' := [some (.ref b), some (.ref (ad 0 0 0)), some (.ref (ad 100 0 0)), some (.ref (ad 200 0 0)), some (.int (nI (4 * i))), none, none]) (by simp [zw_le]) ?_
    exact kk Mb (zop_suspicion σ (xs (4 * i + 1)) (xs (4 * i + 2))).2.2 (zop_suspicion σ (xs (4 * i + 1)) (xs (4 * i + 2))).2.1 (if (zop_suspicion σ (xs (4 * i + 1)) (xs (4 * i + 2))).2.1 = 0 then ((zop_suspicion σ (xs (4 * i + 1)) (xs (4 * i + 2))).1).toInt64 else o) hI.o_suspicion ⟨ad', h1, h2, h3, hW2⟩
  · refine zw_aload_n (v := .ref (ad 200 0 0)) (pc' := 618) K dL_law_617 rfl rfl rfl ?_
    refine zw_iconst (v := 0) (pc' := 619) K dL_law_618 (by decide) rfl ?_
    refine zn_lald (j := 0) (v := (((zop_suspicion σ (xs (4 * i + 1)) (xs (4 * i + 2))).1).toInt64)) (pc' := 620) K hout rfl (by decide) (by show (if (zop_suspicion σ (xs (4 * i + 1)) (xs (4 * i + 2))).2.1 = 0 then ((zop_suspicion σ (xs (4 * i + 1)) (xs (4 * i + 2))).1).toInt64 else o) = ((zop_suspicion σ (xs (4 * i + 1)) (xs (4 * i + 2))).1).toInt64; exact if_pos c614) dL_law_619 rfl ?_
    refine zw_iload (x := (zop_suspicion σ (xs (4 * i + 1)) (xs (4 * i + 2))).1) (pc' := 622) K dL_law_620 rfl rfl ?_
    refine zw_i2l (pc' := 623) K dL_law_622 rfl ?_
    refine zw_lcmp (pc' := 624) K dL_law_623 rfl ?_
    refine zw_if_eq (tgt := 629) (pc' := 627) K dL_law_624 (by decide) rfl (fun c624 => ?_) (fun c624 => by exact absurd (zcmp_self _) c624)
    refine zw_goto (tgt := 1240) K dL_law_629 (by decide) ?_
    refine zw_weakL (lv' := [some (.ref b), some (.ref (ad 0 0 0)), some (.ref (ad 100 0 0)), some (.ref (ad 200 0 0)), some (.int (nI (4 * i))), none, none]) (by simp [zw_le]) ?_
    exact kk Mb (zop_suspicion σ (xs (4 * i + 1)) (xs (4 * i + 2))).2.2 (zop_suspicion σ (xs (4 * i + 1)) (xs (4 * i + 2))).2.1 (if (zop_suspicion σ (xs (4 * i + 1)) (xs (4 * i + 2))).2.1 = 0 then ((zop_suspicion σ (xs (4 * i + 1)) (xs (4 * i + 2))).1).toInt64 else o) hI.o_suspicion ⟨ad', h1, h2, h3, hW2⟩
set_option maxHeartbeats 2000000 in
theorem lc_sign {X : zw_X} (K : zw_K X cL_law 7 RX0 room_1) {b L : Nat} {xs : Nat → Int32} (hF : zlF X b L xs) {M : zw_M} {c n a0 a1 a2 : Nat} {σ : zS} {th : Int32} {o : Int64} (hw : zWl (zw_Xw X) M a0 a1 a2 σ σ th o) (hI : zI σ) {i : Nat} (hi : 4 * i + 4 ≤ L) (hc : c + 60 ≤ 717834) (hn : n + 2100 ≤ 6846346)
    (kk : ∀ (M' : zw_M) (σ' : zS) (th' : Int32) (o' : Int64), zI σ' → zWl (zw_Xw X) M' a0 a1 a2 σ' σ' th' o' → zw_Z X M' (c + 60) (n + 2100) 1240 [some (.ref b), some (.ref a0), some (.ref a1), some (.ref a2), some (.int (nI (4 * i))), none, none] []) : zw_Z X M c n 632 [some (.ref b), some (.ref a0), some (.ref a1), some (.ref a2), some (.int (nI (4 * i))), none, none] [] := by
  obtain ⟨ad, rfl, rfl, rfl, hW⟩ := hw
  have hl : (zw_Xl X).stackTraces = false := K.2.2.2.2.2.2.2.2
  refine zw_aload_n (v := .ref (ad 0 0 0)) (pc' := 633) K dL_law_632 rfl rfl rfl ?_
  refine zw_aload_n (v := .ref b) (pc' := 634) K dL_law_633 rfl rfl rfl ?_
  refine zw_iload (x := nI (4 * i)) (pc' := 636) K dL_law_634 rfl rfl ?_
  refine zw_iconst (v := 1) (pc' := 637) K dL_law_636 (by decide) rfl ?_
  refine zw_iadd (pc' := 638) K dL_law_637 rfl ?_
  refine zw_sld (j := 4 * i + 1) (pc' := 639) K hF (nI_1 (4 * i)) (by omega) dL_law_638 rfl ?_
  refine zw_aload_n (v := .ref b) (pc' := 640) K dL_law_639 rfl rfl rfl ?_
  refine zw_iload (x := nI (4 * i)) (pc' := 642) K dL_law_640 rfl rfl ?_
  refine zw_iconst (v := 2) (pc' := 643) K dL_law_642 (by decide) rfl ?_
  refine zw_iadd (pc' := 644) K dL_law_643 rfl ?_
  refine zw_sld (j := 4 * i + 2) (pc' := 645) K hF (zad_2 (4 * i)) (by omega) dL_law_644 rfl ?_
  refine zw_aload_n (v := .ref b) (pc' := 646) K dL_law_645 rfl rfl rfl ?_
  refine zw_iload (x := nI (4 * i)) (pc' := 648) K dL_law_646 rfl rfl ?_
  refine zw_iconst (v := 3) (pc' := 649) K dL_law_648 (by decide) rfl ?_
  refine zw_iadd (pc' := 650) K dL_law_649 rfl ?_
  refine zw_sld (j := 4 * i + 3) (pc' := 651) K hF (zad_3 (4 * i)) (by omega) dL_law_650 rfl ?_
  refine zw_aload_n (v := .ref (ad 200 0 0)) (pc' := 652) K dL_law_651 rfl rfl rfl ?_
  refine zw_callSW (rest := []) (c' := c + 60) (n' := n + 2100) (pc' := 655) K (ct_X0_sign hl hW hI (xs (4 * i + 1)) (xs (4 * i + 2)) (xs (4 * i + 3))) q513 q514 q21 q515 ⟨by decide, by decide, by show (parseMethodDescriptor yX0_sign.desc).map (fun d => d.parameters.length) = some 5; decide +kernel⟩ rfl dL_law_652 rfl (Nat.le_of_ble_eq_true rfl) ⟨Nat.le_of_ble_eq_true rfl, Nat.le_of_ble_eq_true rfl⟩ ⟨by show c + 4 ≤ c + 60; omega, by show n + 24 ≤ n + 2100; omega, by show c + 60 ≤ 717834; omega, by show n + 2100 ≤ 6846346; omega⟩ (zw_ki fun r Ma h => ?_) zw_kn
  obtain ⟨hr, ad', h1, h2, h3, hW1⟩ := h
  subst hr
  have zm := ct_X2_sign hl hW1 hI (xs (4 * i + 1)) (xs (4 * i + 2)) (xs (4 * i + 3))
  have hmo := hW1.mo
  rw [h2] at zm hmo
  refine zw_istore (lv' := [some (.ref b), some (.ref (ad 0 0 0)), some (.ref (ad 100 0 0)), some (.ref (ad 200 0 0)), some (.int (nI (4 * i))), some (.int ((zop_sign σ (xs (4 * i + 1)) (xs (4 * i + 2)) (xs (4 * i + 3))).2.1)), none]) (pc' := 657) K dL_law_655 (by decide) rfl rfl ?_
  refine zw_aload_n (v := .ref (ad 100 0 0)) (pc' := 658) K dL_law_657 rfl rfl rfl ?_
  refine zw_aload_n (v := .ref b) (pc' := 659) K dL_law_658 rfl rfl rfl ?_
  refine zw_iload (x := nI (4 * i)) (pc' := 661) K dL_law_659 rfl rfl ?_
  refine zw_iconst (v := 1) (pc' := 662) K dL_law_661 (by decide) rfl ?_
  refine zw_iadd (pc' := 663) K dL_law_662 rfl ?_
  refine zw_sld (j := 4 * i + 1) (pc' := 664) K hF (nI_1 (4 * i)) (by omega) dL_law_663 rfl ?_
  refine zw_aload_n (v := .ref b) (pc' := 665) K dL_law_664 rfl rfl rfl ?_
  refine zw_iload (x := nI (4 * i)) (pc' := 667) K dL_law_665 rfl rfl ?_
  refine zw_iconst (v := 2) (pc' := 668) K dL_law_667 (by decide) rfl ?_
  refine zw_iadd (pc' := 669) K dL_law_668 rfl ?_
  refine zw_sld (j := 4 * i + 2) (pc' := 670) K hF (zad_2 (4 * i)) (by omega) dL_law_669 rfl ?_
  refine zw_aload_n (v := .ref b) (pc' := 671) K dL_law_670 rfl rfl rfl ?_
  refine zw_iload (x := nI (4 * i)) (pc' := 673) K dL_law_671 rfl rfl ?_
  refine zw_iconst (v := 3) (pc' := 674) K dL_law_673 (by decide) rfl ?_
  refine zw_iadd (pc' := 675) K dL_law_674 rfl ?_
  refine zw_sld (j := 4 * i + 3) (pc' := 676) K hF (zad_3 (4 * i)) (by omega) dL_law_675 rfl ?_
  refine zc_X0_110 (rest := []) (c' := c + 60) (n' := n + 2100) (pc' := 679) K (zm) hmo rfl rfl dL_law_676 rfl (Nat.le_of_ble_eq_true rfl) ⟨Nat.le_of_ble_eq_true rfl, Nat.le_of_ble_eq_true rfl⟩ ⟨by show c + 60 + 0 ≤ c + 60; omega, by show n + 2100 + 0 ≤ n + 2100; omega, by show c + 60 ≤ 717834; omega, by show n + 2100 ≤ 6846346; omega⟩ (zw_ki fun r Mb h => ?_) zw_kn
  obtain ⟨hr, hW2⟩ := h
  subst hr
  have zt := ct_X2_thrown hl hW2
  have hmo2 := hW2.mo
  have hout := hW2.mout
  rw [h2] at zt hmo2
  rw [h3] at hout
  refine zw_istore (lv' := [some (.ref b), some (.ref (ad 0 0 0)), some (.ref (ad 100 0 0)), some (.ref (ad 200 0 0)), some (.int (nI (4 * i))), some (.int ((zop_sign σ (xs (4 * i + 1)) (xs (4 * i + 2)) (xs (4 * i + 3))).2.1)), some (.int ((zop_sign σ (xs (4 * i + 1)) (xs (4 * i + 2)) (xs (4 * i + 3))).1))]) (pc' := 681) K dL_law_679 (by decide) rfl rfl ?_
  refine zw_aload_n (v := .ref (ad 100 0 0)) (pc' := 682) K dL_law_681 rfl rfl rfl ?_
  refine zc_X0_81 (rest := []) (c' := c + 60) (n' := n + 2100) (pc' := 685) K (zt) hmo2 rfl rfl dL_law_682 rfl (Nat.le_of_ble_eq_true rfl) ⟨Nat.le_of_ble_eq_true rfl, Nat.le_of_ble_eq_true rfl⟩ ⟨by show c + 60 + 0 ≤ c + 60; omega, by show n + 2100 + 0 ≤ n + 2100; omega, by show c + 60 ≤ 717834; omega, by show n + 2100 ≤ 6846346; omega⟩ (zw_kp ?_) zw_kn
  refine zw_iload (x := (zop_sign σ (xs (4 * i + 1)) (xs (4 * i + 2)) (xs (4 * i + 3))).2.1) (pc' := 687) K dL_law_685 rfl rfl ?_
  refine zw_icmp_eq (tgt := 692) (pc' := 690) K dL_law_687 (by decide) rfl (fun c687 => ?_) (fun c687 => by exact absurd rfl c687)
  refine zw_iload (x := (zop_sign σ (xs (4 * i + 1)) (xs (4 * i + 2)) (xs (4 * i + 3))).2.1) (pc' := 694) K dL_law_692 rfl rfl ?_
  refine zw_if_ne (tgt := 709) (pc' := 697) K dL_law_694 (by decide) rfl (fun c694 => ?_) (fun c694 => ?_)
  · refine zw_goto (tgt := 1240) K dL_law_709 (by decide) ?_
    refine zw_weakL (lv' := [some (.ref b), some (.ref (ad 0 0 0)), some (.ref (ad 100 0 0)), some (.ref (ad 200 0 0)), some (.int (nI (4 * i))), none, none]) (by simp [zw_le]) ?_
    exact kk Mb (zop_sign σ (xs (4 * i + 1)) (xs (4 * i + 2)) (xs (4 * i + 3))).2.2 (zop_sign σ (xs (4 * i + 1)) (xs (4 * i + 2)) (xs (4 * i + 3))).2.1 (if (zop_sign σ (xs (4 * i + 1)) (xs (4 * i + 2)) (xs (4 * i + 3))).2.1 = 0 then ((zop_sign σ (xs (4 * i + 1)) (xs (4 * i + 2)) (xs (4 * i + 3))).1).toInt64 else o) hI.o_sign ⟨ad', h1, h2, h3, hW2⟩
  · refine zw_aload_n (v := .ref (ad 200 0 0)) (pc' := 698) K dL_law_697 rfl rfl rfl ?_
    refine zw_iconst (v := 0) (pc' := 699) K dL_law_698 (by decide) rfl ?_
    refine zn_lald (j := 0) (v := (((zop_sign σ (xs (4 * i + 1)) (xs (4 * i + 2)) (xs (4 * i + 3))).1).toInt64)) (pc' := 700) K hout rfl (by decide) (by show (if (zop_sign σ (xs (4 * i + 1)) (xs (4 * i + 2)) (xs (4 * i + 3))).2.1 = 0 then ((zop_sign σ (xs (4 * i + 1)) (xs (4 * i + 2)) (xs (4 * i + 3))).1).toInt64 else o) = ((zop_sign σ (xs (4 * i + 1)) (xs (4 * i + 2)) (xs (4 * i + 3))).1).toInt64; exact if_pos c694) dL_law_699 rfl ?_
    refine zw_iload (x := (zop_sign σ (xs (4 * i + 1)) (xs (4 * i + 2)) (xs (4 * i + 3))).1) (pc' := 702) K dL_law_700 rfl rfl ?_
    refine zw_i2l (pc' := 703) K dL_law_702 rfl ?_
    refine zw_lcmp (pc' := 704) K dL_law_703 rfl ?_
    refine zw_if_eq (tgt := 709) (pc' := 707) K dL_law_704 (by decide) rfl (fun c704 => ?_) (fun c704 => by exact absurd (zcmp_self _) c704)
    refine zw_goto (tgt := 1240) K dL_law_709 (by decide) ?_
    refine zw_weakL (lv' := [some (.ref b), some (.ref (ad 0 0 0)), some (.ref (ad 100 0 0)), some (.ref (ad 200 0 0)), some (.int (nI (4 * i))), none, none]) (by simp [zw_le]) ?_
    exact kk Mb (zop_sign σ (xs (4 * i + 1)) (xs (4 * i + 2)) (xs (4 * i + 3))).2.2 (zop_sign σ (xs (4 * i + 1)) (xs (4 * i + 2)) (xs (4 * i + 3))).2.1 (if (zop_sign σ (xs (4 * i + 1)) (xs (4 * i + 2)) (xs (4 * i + 3))).2.1 = 0 then ((zop_sign σ (xs (4 * i + 1)) (xs (4 * i + 2)) (xs (4 * i + 3))).1).toInt64 else o) hI.o_sign ⟨ad', h1, h2, h3, hW2⟩
set_option maxHeartbeats 2000000 in
theorem lc_setMark {X : zw_X} (K : zw_K X cL_law 7 RX0 room_1) {b L : Nat} {xs : Nat → Int32} (hF : zlF X b L xs) {M : zw_M} {c n a0 a1 a2 : Nat} {σ : zS} {th : Int32} {o : Int64} (hw : zWl (zw_Xw X) M a0 a1 a2 σ σ th o) (hI : zI σ) {i : Nat} (hi : 4 * i + 4 ≤ L) (hc : c + 60 ≤ 717834) (hn : n + 2100 ≤ 6846346)
    (kk : ∀ (M' : zw_M) (σ' : zS) (th' : Int32) (o' : Int64), zI σ' → zWl (zw_Xw X) M' a0 a1 a2 σ' σ' th' o' → zw_Z X M' (c + 60) (n + 2100) 1240 [some (.ref b), some (.ref a0), some (.ref a1), some (.ref a2), some (.int (nI (4 * i))), none, none] []) : zw_Z X M c n 712 [some (.ref b), some (.ref a0), some (.ref a1), some (.ref a2), some (.int (nI (4 * i))), none, none] [] := by
  obtain ⟨ad, rfl, rfl, rfl, hW⟩ := hw
  have hl : (zw_Xl X).stackTraces = false := K.2.2.2.2.2.2.2.2
  refine zw_aload_n (v := .ref (ad 0 0 0)) (pc' := 713) K dL_law_712 rfl rfl rfl ?_
  refine zw_aload_n (v := .ref b) (pc' := 714) K dL_law_713 rfl rfl rfl ?_
  refine zw_iload (x := nI (4 * i)) (pc' := 716) K dL_law_714 rfl rfl ?_
  refine zw_iconst (v := 1) (pc' := 717) K dL_law_716 (by decide) rfl ?_
  refine zw_iadd (pc' := 718) K dL_law_717 rfl ?_
  refine zw_sld (j := 4 * i + 1) (pc' := 719) K hF (nI_1 (4 * i)) (by omega) dL_law_718 rfl ?_
  refine zw_aload_n (v := .ref (ad 200 0 0)) (pc' := 720) K dL_law_719 rfl rfl rfl ?_
  refine zw_callSW (rest := []) (c' := c + 60) (n' := n + 2100) (pc' := 723) K (ct_X0_setMark hl hW hI (xs (4 * i + 1))) q520 q521 q21 q522 ⟨by decide, by decide, by show (parseMethodDescriptor yX0_setMark.desc).map (fun d => d.parameters.length) = some 3; decide +kernel⟩ rfl dL_law_720 rfl (Nat.le_of_ble_eq_true rfl) ⟨Nat.le_of_ble_eq_true rfl, Nat.le_of_ble_eq_true rfl⟩ ⟨by show c + 1 ≤ c + 60; omega, by show n + 6 ≤ n + 2100; omega, by show c + 60 ≤ 717834; omega, by show n + 2100 ≤ 6846346; omega⟩ (zw_ki fun r Ma h => ?_) zw_kn
  obtain ⟨hr, ad', h1, h2, h3, hW1⟩ := h
  subst hr
  have zm := ct_X2_setMark hl hW1 hI (xs (4 * i + 1))
  have hmo := hW1.mo
  rw [h2] at zm hmo
  refine zw_istore (lv' := [some (.ref b), some (.ref (ad 0 0 0)), some (.ref (ad 100 0 0)), some (.ref (ad 200 0 0)), some (.int (nI (4 * i))), some (.int ((zop_setMark σ (xs (4 * i + 1))).2.1)), none]) (pc' := 725) K dL_law_723 (by decide) rfl rfl ?_
  refine zw_aload_n (v := .ref (ad 100 0 0)) (pc' := 726) K dL_law_725 rfl rfl rfl ?_
  refine zw_aload_n (v := .ref b) (pc' := 727) K dL_law_726 rfl rfl rfl ?_
  refine zw_iload (x := nI (4 * i)) (pc' := 729) K dL_law_727 rfl rfl ?_
  refine zw_iconst (v := 1) (pc' := 730) K dL_law_729 (by decide) rfl ?_
  refine zw_iadd (pc' := 731) K dL_law_730 rfl ?_
  refine zw_sld (j := 4 * i + 1) (pc' := 732) K hF (nI_1 (4 * i)) (by omega) dL_law_731 rfl ?_
  refine zc_X0_113 (rest := []) (c' := c + 60) (n' := n + 2100) (pc' := 735) K (zm) hmo rfl rfl dL_law_732 rfl (Nat.le_of_ble_eq_true rfl) ⟨Nat.le_of_ble_eq_true rfl, Nat.le_of_ble_eq_true rfl⟩ ⟨by show c + 60 + 0 ≤ c + 60; omega, by show n + 2100 + 0 ≤ n + 2100; omega, by show c + 60 ≤ 717834; omega, by show n + 2100 ≤ 6846346; omega⟩ (zw_ki fun r Mb h => ?_) zw_kn
  obtain ⟨hr, hW2⟩ := h
  subst hr
  have zt := ct_X2_thrown hl hW2
  have hmo2 := hW2.mo
  have hout := hW2.mout
  rw [h2] at zt hmo2
  rw [h3] at hout
  refine zw_istore (lv' := [some (.ref b), some (.ref (ad 0 0 0)), some (.ref (ad 100 0 0)), some (.ref (ad 200 0 0)), some (.int (nI (4 * i))), some (.int ((zop_setMark σ (xs (4 * i + 1))).2.1)), some (.int ((zop_setMark σ (xs (4 * i + 1))).1))]) (pc' := 737) K dL_law_735 (by decide) rfl rfl ?_
  refine zw_aload_n (v := .ref (ad 100 0 0)) (pc' := 738) K dL_law_737 rfl rfl rfl ?_
  refine zc_X0_81 (rest := []) (c' := c + 60) (n' := n + 2100) (pc' := 741) K (zt) hmo2 rfl rfl dL_law_738 rfl (Nat.le_of_ble_eq_true rfl) ⟨Nat.le_of_ble_eq_true rfl, Nat.le_of_ble_eq_true rfl⟩ ⟨by show c + 60 + 0 ≤ c + 60; omega, by show n + 2100 + 0 ≤ n + 2100; omega, by show c + 60 ≤ 717834; omega, by show n + 2100 ≤ 6846346; omega⟩ (zw_kp ?_) zw_kn
  refine zw_iload (x := (zop_setMark σ (xs (4 * i + 1))).2.1) (pc' := 743) K dL_law_741 rfl rfl ?_
  refine zw_icmp_eq (tgt := 748) (pc' := 746) K dL_law_743 (by decide) rfl (fun c743 => ?_) (fun c743 => by exact absurd rfl c743)
  refine zw_iload (x := (zop_setMark σ (xs (4 * i + 1))).2.1) (pc' := 750) K dL_law_748 rfl rfl ?_
  refine zw_if_ne (tgt := 765) (pc' := 753) K dL_law_750 (by decide) rfl (fun c750 => ?_) (fun c750 => ?_)
  · refine zw_goto (tgt := 1240) K dL_law_765 (by decide) ?_
    refine zw_weakL (lv' := [some (.ref b), some (.ref (ad 0 0 0)), some (.ref (ad 100 0 0)), some (.ref (ad 200 0 0)), some (.int (nI (4 * i))), none, none]) (by simp [zw_le]) ?_
    exact kk Mb (zop_setMark σ (xs (4 * i + 1))).2.2 (zop_setMark σ (xs (4 * i + 1))).2.1 (if (zop_setMark σ (xs (4 * i + 1))).2.1 = 0 then ((zop_setMark σ (xs (4 * i + 1))).1).toInt64 else o) hI.o_setMark ⟨ad', h1, h2, h3, hW2⟩
  · refine zw_aload_n (v := .ref (ad 200 0 0)) (pc' := 754) K dL_law_753 rfl rfl rfl ?_
    refine zw_iconst (v := 0) (pc' := 755) K dL_law_754 (by decide) rfl ?_
    refine zn_lald (j := 0) (v := (((zop_setMark σ (xs (4 * i + 1))).1).toInt64)) (pc' := 756) K hout rfl (by decide) (by show (if (zop_setMark σ (xs (4 * i + 1))).2.1 = 0 then ((zop_setMark σ (xs (4 * i + 1))).1).toInt64 else o) = ((zop_setMark σ (xs (4 * i + 1))).1).toInt64; exact if_pos c750) dL_law_755 rfl ?_
    refine zw_iload (x := (zop_setMark σ (xs (4 * i + 1))).1) (pc' := 758) K dL_law_756 rfl rfl ?_
    refine zw_i2l (pc' := 759) K dL_law_758 rfl ?_
    refine zw_lcmp (pc' := 760) K dL_law_759 rfl ?_
    refine zw_if_eq (tgt := 765) (pc' := 763) K dL_law_760 (by decide) rfl (fun c760 => ?_) (fun c760 => by exact absurd (zcmp_self _) c760)
    refine zw_goto (tgt := 1240) K dL_law_765 (by decide) ?_
    refine zw_weakL (lv' := [some (.ref b), some (.ref (ad 0 0 0)), some (.ref (ad 100 0 0)), some (.ref (ad 200 0 0)), some (.int (nI (4 * i))), none, none]) (by simp [zw_le]) ?_
    exact kk Mb (zop_setMark σ (xs (4 * i + 1))).2.2 (zop_setMark σ (xs (4 * i + 1))).2.1 (if (zop_setMark σ (xs (4 * i + 1))).2.1 = 0 then ((zop_setMark σ (xs (4 * i + 1))).1).toInt64 else o) hI.o_setMark ⟨ad', h1, h2, h3, hW2⟩
set_option maxHeartbeats 2000000 in
theorem lc_worst {X : zw_X} (K : zw_K X cL_law 7 RX0 room_1) {b L : Nat} {xs : Nat → Int32} (hF : zlF X b L xs) {M : zw_M} {c n a0 a1 a2 : Nat} {σ : zS} {th : Int32} {o : Int64} (hw : zWl (zw_Xw X) M a0 a1 a2 σ σ th o) (hI : zI σ) {i : Nat} (hi : 4 * i + 4 ≤ L) (hc : c + 60 ≤ 717834) (hn : n + 2100 ≤ 6846346)
    (kk : ∀ (M' : zw_M) (σ' : zS) (th' : Int32) (o' : Int64), zI σ' → zWl (zw_Xw X) M' a0 a1 a2 σ' σ' th' o' → zw_Z X M' (c + 60) (n + 2100) 1240 [some (.ref b), some (.ref a0), some (.ref a1), some (.ref a2), some (.int (nI (4 * i))), none, none] []) : zw_Z X M c n 768 [some (.ref b), some (.ref a0), some (.ref a1), some (.ref a2), some (.int (nI (4 * i))), none, none] [] := by
  obtain ⟨ad, rfl, rfl, rfl, hW⟩ := hw
  have hl : (zw_Xl X).stackTraces = false := K.2.2.2.2.2.2.2.2
  refine zw_aload_n (v := .ref (ad 0 0 0)) (pc' := 769) K dL_law_768 rfl rfl rfl ?_
  refine zc_X0_114 (rest := []) (c' := c + 60) (n' := n + 2100) (pc' := 772) K (ct_X1_worst hl hW hI) hW.c0 rfl rfl dL_law_769 rfl (Nat.le_of_ble_eq_true rfl) ⟨Nat.le_of_ble_eq_true rfl, Nat.le_of_ble_eq_true rfl⟩ ⟨by show c + 49 ≤ c + 60; omega, by show n + 98 ≤ n + 2100; omega, by show c + 60 ≤ 717834; omega, by show n + 2100 ≤ 6846346; omega⟩ (zw_ki fun r Ma h => ?_) zw_kn
  obtain ⟨-, hr, ad', h1, h2, h3, hW1⟩ := h
  have hr : r = zworst σ := hr
  subst hr
  have zm := ct_X2_worst hl hW1 hI
  have hmo := hW1.mo
  rw [h2] at zm hmo
  refine zw_aload_n (v := .ref (ad 100 0 0)) (pc' := 773) K dL_law_772 rfl rfl rfl ?_
  refine zc_X0_117 (rest := [.int (zworst σ)]) (c' := c + 60) (n' := n + 2100) (pc' := 776) K (zm) hmo rfl rfl dL_law_773 rfl (Nat.le_of_ble_eq_true rfl) ⟨Nat.le_of_ble_eq_true rfl, Nat.le_of_ble_eq_true rfl⟩ ⟨by show c + 60 + 0 ≤ c + 60; omega, by show n + 2100 + 0 ≤ n + 2100; omega, by show c + 60 ≤ 717834; omega, by show n + 2100 ≤ 6846346; omega⟩ (zw_ki fun r Mb h => ?_) zw_kn
  obtain ⟨hr, hW2⟩ := h
  subst hr
  refine zw_icmp_eq (tgt := 1240) (pc' := 779) K dL_law_776 (by decide) rfl (fun c776 => ?_) (fun c776 => by exact absurd rfl c776)
  exact kk Mb σ 0 o hI ⟨ad', h1, h2, h3, hW2⟩
set_option maxHeartbeats 2000000 in
theorem lc_file {X : zw_X} (K : zw_K X cL_law 7 RX0 room_1) {b L : Nat} {xs : Nat → Int32} (hF : zlF X b L xs) {M : zw_M} {c n a0 a1 a2 : Nat} {σ : zS} {th : Int32} {o : Int64} (hw : zWl (zw_Xw X) M a0 a1 a2 σ σ th o) (hI : zI σ) {i : Nat} (hi : 4 * i + 4 ≤ L) (hc : c + 60 ≤ 717834) (hn : n + 2100 ≤ 6846346)
    (kk : ∀ (M' : zw_M) (σ' : zS) (th' : Int32) (o' : Int64), zI σ' → zWl (zw_Xw X) M' a0 a1 a2 σ' σ' th' o' → zw_Z X M' (c + 60) (n + 2100) 1240 [some (.ref b), some (.ref a0), some (.ref a1), some (.ref a2), some (.int (nI (4 * i))), none, none] []) : zw_Z X M c n 781 [some (.ref b), some (.ref a0), some (.ref a1), some (.ref a2), some (.int (nI (4 * i))), none, none] [] := by
  obtain ⟨ad, rfl, rfl, rfl, hW⟩ := hw
  have hl : (zw_Xl X).stackTraces = false := K.2.2.2.2.2.2.2.2
  refine zw_aload_n (v := .ref (ad 0 0 0)) (pc' := 782) K dL_law_781 rfl rfl rfl ?_
  refine zw_aload_n (v := .ref b) (pc' := 783) K dL_law_782 rfl rfl rfl ?_
  refine zw_iload (x := nI (4 * i)) (pc' := 785) K dL_law_783 rfl rfl ?_
  refine zw_iconst (v := 1) (pc' := 786) K dL_law_785 (by decide) rfl ?_
  refine zw_iadd (pc' := 787) K dL_law_786 rfl ?_
  refine zw_sld (j := 4 * i + 1) (pc' := 788) K hF (nI_1 (4 * i)) (by omega) dL_law_787 rfl ?_
  refine zw_aload_n (v := .ref b) (pc' := 789) K dL_law_788 rfl rfl rfl ?_
  refine zw_iload (x := nI (4 * i)) (pc' := 791) K dL_law_789 rfl rfl ?_
  refine zw_iconst (v := 2) (pc' := 792) K dL_law_791 (by decide) rfl ?_
  refine zw_iadd (pc' := 793) K dL_law_792 rfl ?_
  refine zw_sld (j := 4 * i + 2) (pc' := 794) K hF (zad_2 (4 * i)) (by omega) dL_law_793 rfl ?_
  refine zw_aload_n (v := .ref (ad 200 0 0)) (pc' := 795) K dL_law_794 rfl rfl rfl ?_
  refine zw_callSW (rest := []) (c' := c + 60) (n' := n + 2100) (pc' := 798) K (ct_X0_file hl hW hI (xs (4 * i + 1)) (xs (4 * i + 2))) q527 q528 q21 q529 ⟨by decide, by decide, by show (parseMethodDescriptor yX0_file.desc).map (fun d => d.parameters.length) = some 4; decide +kernel⟩ rfl dL_law_795 rfl (Nat.le_of_ble_eq_true rfl) ⟨Nat.le_of_ble_eq_true rfl, Nat.le_of_ble_eq_true rfl⟩ ⟨by show c + 41 ≤ c + 60; omega, by show n + 2037 ≤ n + 2100; omega, by show c + 60 ≤ 717834; omega, by show n + 2100 ≤ 6846346; omega⟩ (zw_ki fun r Ma h => ?_) zw_kn
  obtain ⟨hr, ad', h1, h2, h3, hW1⟩ := h
  subst hr
  have zm := ct_X2_file hl hW1 hI (xs (4 * i + 1)) (xs (4 * i + 2))
  have hmo := hW1.mo
  rw [h2] at zm hmo
  refine zw_istore (lv' := [some (.ref b), some (.ref (ad 0 0 0)), some (.ref (ad 100 0 0)), some (.ref (ad 200 0 0)), some (.int (nI (4 * i))), some (.int ((zop_file σ (xs (4 * i + 1)) (xs (4 * i + 2))).2.1)), none]) (pc' := 800) K dL_law_798 (by decide) rfl rfl ?_
  refine zw_aload_n (v := .ref (ad 100 0 0)) (pc' := 801) K dL_law_800 rfl rfl rfl ?_
  refine zw_aload_n (v := .ref b) (pc' := 802) K dL_law_801 rfl rfl rfl ?_
  refine zw_iload (x := nI (4 * i)) (pc' := 804) K dL_law_802 rfl rfl ?_
  refine zw_iconst (v := 1) (pc' := 805) K dL_law_804 (by decide) rfl ?_
  refine zw_iadd (pc' := 806) K dL_law_805 rfl ?_
  refine zw_sld (j := 4 * i + 1) (pc' := 807) K hF (nI_1 (4 * i)) (by omega) dL_law_806 rfl ?_
  refine zw_aload_n (v := .ref b) (pc' := 808) K dL_law_807 rfl rfl rfl ?_
  refine zw_iload (x := nI (4 * i)) (pc' := 810) K dL_law_808 rfl rfl ?_
  refine zw_iconst (v := 2) (pc' := 811) K dL_law_810 (by decide) rfl ?_
  refine zw_iadd (pc' := 812) K dL_law_811 rfl ?_
  refine zw_sld (j := 4 * i + 2) (pc' := 813) K hF (zad_2 (4 * i)) (by omega) dL_law_812 rfl ?_
  refine zc_X0_120 (rest := []) (c' := c + 60) (n' := n + 2100) (pc' := 816) K (zm) hmo rfl rfl dL_law_813 rfl (Nat.le_of_ble_eq_true rfl) ⟨Nat.le_of_ble_eq_true rfl, Nat.le_of_ble_eq_true rfl⟩ ⟨by show c + 60 + 0 ≤ c + 60; omega, by show n + 2100 + 0 ≤ n + 2100; omega, by show c + 60 ≤ 717834; omega, by show n + 2100 ≤ 6846346; omega⟩ (zw_ki fun r Mb h => ?_) zw_kn
  obtain ⟨hr, hW2⟩ := h
  subst hr
  have zt := ct_X2_thrown hl hW2
  have hmo2 := hW2.mo
  have hout := hW2.mout
  rw [h2] at zt hmo2
  rw [h3] at hout
  refine zw_istore (lv' := [some (.ref b), some (.ref (ad 0 0 0)), some (.ref (ad 100 0 0)), some (.ref (ad 200 0 0)), some (.int (nI (4 * i))), some (.int ((zop_file σ (xs (4 * i + 1)) (xs (4 * i + 2))).2.1)), some (.int ((zop_file σ (xs (4 * i + 1)) (xs (4 * i + 2))).1))]) (pc' := 818) K dL_law_816 (by decide) rfl rfl ?_
  refine zw_aload_n (v := .ref (ad 100 0 0)) (pc' := 819) K dL_law_818 rfl rfl rfl ?_
  refine zc_X0_81 (rest := []) (c' := c + 60) (n' := n + 2100) (pc' := 822) K (zt) hmo2 rfl rfl dL_law_819 rfl (Nat.le_of_ble_eq_true rfl) ⟨Nat.le_of_ble_eq_true rfl, Nat.le_of_ble_eq_true rfl⟩ ⟨by show c + 60 + 0 ≤ c + 60; omega, by show n + 2100 + 0 ≤ n + 2100; omega, by show c + 60 ≤ 717834; omega, by show n + 2100 ≤ 6846346; omega⟩ (zw_kp ?_) zw_kn
  refine zw_iload (x := (zop_file σ (xs (4 * i + 1)) (xs (4 * i + 2))).2.1) (pc' := 824) K dL_law_822 rfl rfl ?_
  refine zw_icmp_eq (tgt := 829) (pc' := 827) K dL_law_824 (by decide) rfl (fun c824 => ?_) (fun c824 => by exact absurd rfl c824)
  refine zw_iload (x := (zop_file σ (xs (4 * i + 1)) (xs (4 * i + 2))).2.1) (pc' := 831) K dL_law_829 rfl rfl ?_
  refine zw_if_ne (tgt := 846) (pc' := 834) K dL_law_831 (by decide) rfl (fun c831 => ?_) (fun c831 => ?_)
  · refine zw_goto (tgt := 1240) K dL_law_846 (by decide) ?_
    refine zw_weakL (lv' := [some (.ref b), some (.ref (ad 0 0 0)), some (.ref (ad 100 0 0)), some (.ref (ad 200 0 0)), some (.int (nI (4 * i))), none, none]) (by simp [zw_le]) ?_
    exact kk Mb (zop_file σ (xs (4 * i + 1)) (xs (4 * i + 2))).2.2 (zop_file σ (xs (4 * i + 1)) (xs (4 * i + 2))).2.1 (if (zop_file σ (xs (4 * i + 1)) (xs (4 * i + 2))).2.1 = 0 then ((zop_file σ (xs (4 * i + 1)) (xs (4 * i + 2))).1).toInt64 else o) hI.o_file ⟨ad', h1, h2, h3, hW2⟩
  · refine zw_aload_n (v := .ref (ad 200 0 0)) (pc' := 835) K dL_law_834 rfl rfl rfl ?_
    refine zw_iconst (v := 0) (pc' := 836) K dL_law_835 (by decide) rfl ?_
    refine zn_lald (j := 0) (v := (((zop_file σ (xs (4 * i + 1)) (xs (4 * i + 2))).1).toInt64)) (pc' := 837) K hout rfl (by decide) (by show (if (zop_file σ (xs (4 * i + 1)) (xs (4 * i + 2))).2.1 = 0 then ((zop_file σ (xs (4 * i + 1)) (xs (4 * i + 2))).1).toInt64 else o) = ((zop_file σ (xs (4 * i + 1)) (xs (4 * i + 2))).1).toInt64; exact if_pos c831) dL_law_836 rfl ?_
    refine zw_iload (x := (zop_file σ (xs (4 * i + 1)) (xs (4 * i + 2))).1) (pc' := 839) K dL_law_837 rfl rfl ?_
    refine zw_i2l (pc' := 840) K dL_law_839 rfl ?_
    refine zw_lcmp (pc' := 841) K dL_law_840 rfl ?_
    refine zw_if_eq (tgt := 846) (pc' := 844) K dL_law_841 (by decide) rfl (fun c841 => ?_) (fun c841 => by exact absurd (zcmp_self _) c841)
    refine zw_goto (tgt := 1240) K dL_law_846 (by decide) ?_
    refine zw_weakL (lv' := [some (.ref b), some (.ref (ad 0 0 0)), some (.ref (ad 100 0 0)), some (.ref (ad 200 0 0)), some (.int (nI (4 * i))), none, none]) (by simp [zw_le]) ?_
    exact kk Mb (zop_file σ (xs (4 * i + 1)) (xs (4 * i + 2))).2.2 (zop_file σ (xs (4 * i + 1)) (xs (4 * i + 2))).2.1 (if (zop_file σ (xs (4 * i + 1)) (xs (4 * i + 2))).2.1 = 0 then ((zop_file σ (xs (4 * i + 1)) (xs (4 * i + 2))).1).toInt64 else o) hI.o_file ⟨ad', h1, h2, h3, hW2⟩
set_option maxHeartbeats 2000000 in
theorem lc_matters {X : zw_X} (K : zw_K X cL_law 7 RX0 room_1) {b L : Nat} {xs : Nat → Int32} (hF : zlF X b L xs) {M : zw_M} {c n a0 a1 a2 : Nat} {σ : zS} {th : Int32} {o : Int64} (hw : zWl (zw_Xw X) M a0 a1 a2 σ σ th o) (hI : zI σ) {i : Nat} (hi : 4 * i + 4 ≤ L) (hc : c + 60 ≤ 717834) (hn : n + 2100 ≤ 6846346)
    (kk : ∀ (M' : zw_M) (σ' : zS) (th' : Int32) (o' : Int64), zI σ' → zWl (zw_Xw X) M' a0 a1 a2 σ' σ' th' o' → zw_Z X M' (c + 60) (n + 2100) 1240 [some (.ref b), some (.ref a0), some (.ref a1), some (.ref a2), some (.int (nI (4 * i))), none, none] []) : zw_Z X M c n 849 [some (.ref b), some (.ref a0), some (.ref a1), some (.ref a2), some (.int (nI (4 * i))), none, none] [] := by
  obtain ⟨ad, rfl, rfl, rfl, hW⟩ := hw
  have hl : (zw_Xl X).stackTraces = false := K.2.2.2.2.2.2.2.2
  refine zw_aload_n (v := .ref (ad 0 0 0)) (pc' := 850) K dL_law_849 rfl rfl rfl ?_
  refine zw_aload_n (v := .ref b) (pc' := 851) K dL_law_850 rfl rfl rfl ?_
  refine zw_iload (x := nI (4 * i)) (pc' := 853) K dL_law_851 rfl rfl ?_
  refine zw_iconst (v := 1) (pc' := 854) K dL_law_853 (by decide) rfl ?_
  refine zw_iadd (pc' := 855) K dL_law_854 rfl ?_
  refine zw_sld (j := 4 * i + 1) (pc' := 856) K hF (nI_1 (4 * i)) (by omega) dL_law_855 rfl ?_
  refine zw_aload_n (v := .ref (ad 200 0 0)) (pc' := 857) K dL_law_856 rfl rfl rfl ?_
  refine zw_callSW (rest := []) (c' := c + 60) (n' := n + 2100) (pc' := 860) K (ct_X0_matters hl hW hI (xs (4 * i + 1))) q572 q573 q21 q574 ⟨by decide, by decide, by show (parseMethodDescriptor yX0_matters.desc).map (fun d => d.parameters.length) = some 3; decide +kernel⟩ rfl dL_law_857 rfl (Nat.le_of_ble_eq_true rfl) ⟨Nat.le_of_ble_eq_true rfl, Nat.le_of_ble_eq_true rfl⟩ ⟨by show c + 1 ≤ c + 60; omega, by show n + 6 ≤ n + 2100; omega, by show c + 60 ≤ 717834; omega, by show n + 2100 ≤ 6846346; omega⟩ (zw_ki fun r Ma h => ?_) zw_kn
  obtain ⟨hr, ad', h1, h2, h3, hW1⟩ := h
  subst hr
  have zm := ct_X2_matters hl hW1 hI (xs (4 * i + 1))
  have hmo := hW1.mo
  rw [h2] at zm hmo
  refine zw_istore (lv' := [some (.ref b), some (.ref (ad 0 0 0)), some (.ref (ad 100 0 0)), some (.ref (ad 200 0 0)), some (.int (nI (4 * i))), some (.int ((zop_matters σ (xs (4 * i + 1))).2.1)), none]) (pc' := 862) K dL_law_860 (by decide) rfl rfl ?_
  refine zw_aload_n (v := .ref (ad 100 0 0)) (pc' := 863) K dL_law_862 rfl rfl rfl ?_
  refine zw_aload_n (v := .ref b) (pc' := 864) K dL_law_863 rfl rfl rfl ?_
  refine zw_iload (x := nI (4 * i)) (pc' := 866) K dL_law_864 rfl rfl ?_
  refine zw_iconst (v := 1) (pc' := 867) K dL_law_866 (by decide) rfl ?_
  refine zw_iadd (pc' := 868) K dL_law_867 rfl ?_
  refine zw_sld (j := 4 * i + 1) (pc' := 869) K hF (nI_1 (4 * i)) (by omega) dL_law_868 rfl ?_
  refine zc_X0_123 (rest := []) (c' := c + 60) (n' := n + 2100) (pc' := 872) K (zm) hmo rfl rfl dL_law_869 rfl (Nat.le_of_ble_eq_true rfl) ⟨Nat.le_of_ble_eq_true rfl, Nat.le_of_ble_eq_true rfl⟩ ⟨by show c + 60 + 0 ≤ c + 60; omega, by show n + 2100 + 0 ≤ n + 2100; omega, by show c + 60 ≤ 717834; omega, by show n + 2100 ≤ 6846346; omega⟩ (zw_ki fun r Mb h => ?_) zw_kn
  obtain ⟨hr, hW2⟩ := h
  subst hr
  have zt := ct_X2_thrown hl hW2
  have hmo2 := hW2.mo
  have hout := hW2.mout
  rw [h2] at zt hmo2
  rw [h3] at hout
  refine zw_istore (lv' := [some (.ref b), some (.ref (ad 0 0 0)), some (.ref (ad 100 0 0)), some (.ref (ad 200 0 0)), some (.int (nI (4 * i))), some (.int ((zop_matters σ (xs (4 * i + 1))).2.1)), some (.int ((zop_matters σ (xs (4 * i + 1))).1))]) (pc' := 874) K dL_law_872 (by decide) rfl rfl ?_
  refine zw_aload_n (v := .ref (ad 100 0 0)) (pc' := 875) K dL_law_874 rfl rfl rfl ?_
  refine zc_X0_81 (rest := []) (c' := c + 60) (n' := n + 2100) (pc' := 878) K (zt) hmo2 rfl rfl dL_law_875 rfl (Nat.le_of_ble_eq_true rfl) ⟨Nat.le_of_ble_eq_true rfl, Nat.le_of_ble_eq_true rfl⟩ ⟨by show c + 60 + 0 ≤ c + 60; omega, by show n + 2100 + 0 ≤ n + 2100; omega, by show c + 60 ≤ 717834; omega, by show n + 2100 ≤ 6846346; omega⟩ (zw_kp ?_) zw_kn
  refine zw_iload (x := (zop_matters σ (xs (4 * i + 1))).2.1) (pc' := 880) K dL_law_878 rfl rfl ?_
  refine zw_icmp_eq (tgt := 885) (pc' := 883) K dL_law_880 (by decide) rfl (fun c880 => ?_) (fun c880 => by exact absurd rfl c880)
  refine zw_iload (x := (zop_matters σ (xs (4 * i + 1))).2.1) (pc' := 887) K dL_law_885 rfl rfl ?_
  refine zw_if_ne (tgt := 902) (pc' := 890) K dL_law_887 (by decide) rfl (fun c887 => ?_) (fun c887 => ?_)
  · refine zw_goto (tgt := 1240) K dL_law_902 (by decide) ?_
    refine zw_weakL (lv' := [some (.ref b), some (.ref (ad 0 0 0)), some (.ref (ad 100 0 0)), some (.ref (ad 200 0 0)), some (.int (nI (4 * i))), none, none]) (by simp [zw_le]) ?_
    exact kk Mb (zop_matters σ (xs (4 * i + 1))).2.2 (zop_matters σ (xs (4 * i + 1))).2.1 (if (zop_matters σ (xs (4 * i + 1))).2.1 = 0 then ((zop_matters σ (xs (4 * i + 1))).1).toInt64 else o) hI.o_matters ⟨ad', h1, h2, h3, hW2⟩
  · refine zw_aload_n (v := .ref (ad 200 0 0)) (pc' := 891) K dL_law_890 rfl rfl rfl ?_
    refine zw_iconst (v := 0) (pc' := 892) K dL_law_891 (by decide) rfl ?_
    refine zn_lald (j := 0) (v := (((zop_matters σ (xs (4 * i + 1))).1).toInt64)) (pc' := 893) K hout rfl (by decide) (by show (if (zop_matters σ (xs (4 * i + 1))).2.1 = 0 then ((zop_matters σ (xs (4 * i + 1))).1).toInt64 else o) = ((zop_matters σ (xs (4 * i + 1))).1).toInt64; exact if_pos c887) dL_law_892 rfl ?_
    refine zw_iload (x := (zop_matters σ (xs (4 * i + 1))).1) (pc' := 895) K dL_law_893 rfl rfl ?_
    refine zw_i2l (pc' := 896) K dL_law_895 rfl ?_
    refine zw_lcmp (pc' := 897) K dL_law_896 rfl ?_
    refine zw_if_eq (tgt := 902) (pc' := 900) K dL_law_897 (by decide) rfl (fun c897 => ?_) (fun c897 => by exact absurd (zcmp_self _) c897)
    refine zw_goto (tgt := 1240) K dL_law_902 (by decide) ?_
    refine zw_weakL (lv' := [some (.ref b), some (.ref (ad 0 0 0)), some (.ref (ad 100 0 0)), some (.ref (ad 200 0 0)), some (.int (nI (4 * i))), none, none]) (by simp [zw_le]) ?_
    exact kk Mb (zop_matters σ (xs (4 * i + 1))).2.2 (zop_matters σ (xs (4 * i + 1))).2.1 (if (zop_matters σ (xs (4 * i + 1))).2.1 = 0 then ((zop_matters σ (xs (4 * i + 1))).1).toInt64 else o) hI.o_matters ⟨ad', h1, h2, h3, hW2⟩
set_option maxHeartbeats 2000000 in
theorem lc_tell {X : zw_X} (K : zw_K X cL_law 7 RX0 room_1) {b L : Nat} {xs : Nat → Int32} (hF : zlF X b L xs) {M : zw_M} {c n a0 a1 a2 : Nat} {σ : zS} {th : Int32} {o : Int64} (hw : zWl (zw_Xw X) M a0 a1 a2 σ σ th o) (hI : zI σ) {i : Nat} (hi : 4 * i + 4 ≤ L) (hc : c + 60 ≤ 717834) (hn : n + 2100 ≤ 6846346)
    (kk : ∀ (M' : zw_M) (σ' : zS) (th' : Int32) (o' : Int64), zI σ' → zWl (zw_Xw X) M' a0 a1 a2 σ' σ' th' o' → zw_Z X M' (c + 60) (n + 2100) 1240 [some (.ref b), some (.ref a0), some (.ref a1), some (.ref a2), some (.int (nI (4 * i))), none, none] []) : zw_Z X M c n 905 [some (.ref b), some (.ref a0), some (.ref a1), some (.ref a2), some (.int (nI (4 * i))), none, none] [] := by
  obtain ⟨ad, rfl, rfl, rfl, hW⟩ := hw
  have hl : (zw_Xl X).stackTraces = false := K.2.2.2.2.2.2.2.2
  refine zw_aload_n (v := .ref (ad 0 0 0)) (pc' := 906) K dL_law_905 rfl rfl rfl ?_
  refine zw_aload_n (v := .ref b) (pc' := 907) K dL_law_906 rfl rfl rfl ?_
  refine zw_iload (x := nI (4 * i)) (pc' := 909) K dL_law_907 rfl rfl ?_
  refine zw_iconst (v := 1) (pc' := 910) K dL_law_909 (by decide) rfl ?_
  refine zw_iadd (pc' := 911) K dL_law_910 rfl ?_
  refine zw_sld (j := 4 * i + 1) (pc' := 912) K hF (nI_1 (4 * i)) (by omega) dL_law_911 rfl ?_
  refine zw_aload_n (v := .ref b) (pc' := 913) K dL_law_912 rfl rfl rfl ?_
  refine zw_iload (x := nI (4 * i)) (pc' := 915) K dL_law_913 rfl rfl ?_
  refine zw_iconst (v := 2) (pc' := 916) K dL_law_915 (by decide) rfl ?_
  refine zw_iadd (pc' := 917) K dL_law_916 rfl ?_
  refine zw_sld (j := 4 * i + 2) (pc' := 918) K hF (zad_2 (4 * i)) (by omega) dL_law_917 rfl ?_
  refine zw_aload_n (v := .ref b) (pc' := 919) K dL_law_918 rfl rfl rfl ?_
  refine zw_iload (x := nI (4 * i)) (pc' := 921) K dL_law_919 rfl rfl ?_
  refine zw_iconst (v := 3) (pc' := 922) K dL_law_921 (by decide) rfl ?_
  refine zw_iadd (pc' := 923) K dL_law_922 rfl ?_
  refine zw_sld (j := 4 * i + 3) (pc' := 924) K hF (zad_3 (4 * i)) (by omega) dL_law_923 rfl ?_
  refine zw_aload_n (v := .ref (ad 200 0 0)) (pc' := 925) K dL_law_924 rfl rfl rfl ?_
  refine zw_callSW (rest := []) (c' := c + 60) (n' := n + 2100) (pc' := 928) K (ct_X0_tell hl hW hI (xs (4 * i + 1)) (xs (4 * i + 2)) (xs (4 * i + 3))) q579 q580 q21 q581 ⟨by decide, by decide, by show (parseMethodDescriptor yX0_tell.desc).map (fun d => d.parameters.length) = some 5; decide +kernel⟩ rfl dL_law_925 rfl (Nat.le_of_ble_eq_true rfl) ⟨Nat.le_of_ble_eq_true rfl, Nat.le_of_ble_eq_true rfl⟩ ⟨by show c + 5 ≤ c + 60; omega, by show n + 88 ≤ n + 2100; omega, by show c + 60 ≤ 717834; omega, by show n + 2100 ≤ 6846346; omega⟩ (zw_ki fun r Ma h => ?_) zw_kn
  obtain ⟨hr, ad', h1, h2, h3, hW1⟩ := h
  subst hr
  have zm := ct_X2_tell hl hW1 hI (xs (4 * i + 1)) (xs (4 * i + 2)) (xs (4 * i + 3))
  have hmo := hW1.mo
  rw [h2] at zm hmo
  refine zw_istore (lv' := [some (.ref b), some (.ref (ad 0 0 0)), some (.ref (ad 100 0 0)), some (.ref (ad 200 0 0)), some (.int (nI (4 * i))), some (.int ((zop_tell σ (xs (4 * i + 1)) (xs (4 * i + 2)) (xs (4 * i + 3))).2.1)), none]) (pc' := 930) K dL_law_928 (by decide) rfl rfl ?_
  refine zw_aload_n (v := .ref (ad 100 0 0)) (pc' := 931) K dL_law_930 rfl rfl rfl ?_
  refine zw_aload_n (v := .ref b) (pc' := 932) K dL_law_931 rfl rfl rfl ?_
  refine zw_iload (x := nI (4 * i)) (pc' := 934) K dL_law_932 rfl rfl ?_
  refine zw_iconst (v := 1) (pc' := 935) K dL_law_934 (by decide) rfl ?_
  refine zw_iadd (pc' := 936) K dL_law_935 rfl ?_
  refine zw_sld (j := 4 * i + 1) (pc' := 937) K hF (nI_1 (4 * i)) (by omega) dL_law_936 rfl ?_
  refine zw_aload_n (v := .ref b) (pc' := 938) K dL_law_937 rfl rfl rfl ?_
  refine zw_iload (x := nI (4 * i)) (pc' := 940) K dL_law_938 rfl rfl ?_
  refine zw_iconst (v := 2) (pc' := 941) K dL_law_940 (by decide) rfl ?_
  refine zw_iadd (pc' := 942) K dL_law_941 rfl ?_
  refine zw_sld (j := 4 * i + 2) (pc' := 943) K hF (zad_2 (4 * i)) (by omega) dL_law_942 rfl ?_
  refine zw_aload_n (v := .ref b) (pc' := 944) K dL_law_943 rfl rfl rfl ?_
  refine zw_iload (x := nI (4 * i)) (pc' := 946) K dL_law_944 rfl rfl ?_
  refine zw_iconst (v := 3) (pc' := 947) K dL_law_946 (by decide) rfl ?_
  refine zw_iadd (pc' := 948) K dL_law_947 rfl ?_
  refine zw_sld (j := 4 * i + 3) (pc' := 949) K hF (zad_3 (4 * i)) (by omega) dL_law_948 rfl ?_
  refine zc_X0_126 (rest := []) (c' := c + 60) (n' := n + 2100) (pc' := 952) K (zm) hmo rfl rfl dL_law_949 rfl (Nat.le_of_ble_eq_true rfl) ⟨Nat.le_of_ble_eq_true rfl, Nat.le_of_ble_eq_true rfl⟩ ⟨by show c + 60 + 0 ≤ c + 60; omega, by show n + 2100 + 0 ≤ n + 2100; omega, by show c + 60 ≤ 717834; omega, by show n + 2100 ≤ 6846346; omega⟩ (zw_ki fun r Mb h => ?_) zw_kn
  obtain ⟨hr, hW2⟩ := h
  subst hr
  have zt := ct_X2_thrown hl hW2
  have hmo2 := hW2.mo
  have hout := hW2.mout
  rw [h2] at zt hmo2
  rw [h3] at hout
  refine zw_istore (lv' := [some (.ref b), some (.ref (ad 0 0 0)), some (.ref (ad 100 0 0)), some (.ref (ad 200 0 0)), some (.int (nI (4 * i))), some (.int ((zop_tell σ (xs (4 * i + 1)) (xs (4 * i + 2)) (xs (4 * i + 3))).2.1)), some (.int ((zop_tell σ (xs (4 * i + 1)) (xs (4 * i + 2)) (xs (4 * i + 3))).1))]) (pc' := 954) K dL_law_952 (by decide) rfl rfl ?_
  refine zw_aload_n (v := .ref (ad 100 0 0)) (pc' := 955) K dL_law_954 rfl rfl rfl ?_
  refine zc_X0_81 (rest := []) (c' := c + 60) (n' := n + 2100) (pc' := 958) K (zt) hmo2 rfl rfl dL_law_955 rfl (Nat.le_of_ble_eq_true rfl) ⟨Nat.le_of_ble_eq_true rfl, Nat.le_of_ble_eq_true rfl⟩ ⟨by show c + 60 + 0 ≤ c + 60; omega, by show n + 2100 + 0 ≤ n + 2100; omega, by show c + 60 ≤ 717834; omega, by show n + 2100 ≤ 6846346; omega⟩ (zw_kp ?_) zw_kn
  refine zw_iload (x := (zop_tell σ (xs (4 * i + 1)) (xs (4 * i + 2)) (xs (4 * i + 3))).2.1) (pc' := 960) K dL_law_958 rfl rfl ?_
  refine zw_icmp_eq (tgt := 965) (pc' := 963) K dL_law_960 (by decide) rfl (fun c960 => ?_) (fun c960 => by exact absurd rfl c960)
  refine zw_iload (x := (zop_tell σ (xs (4 * i + 1)) (xs (4 * i + 2)) (xs (4 * i + 3))).2.1) (pc' := 967) K dL_law_965 rfl rfl ?_
  refine zw_if_ne (tgt := 989) (pc' := 970) K dL_law_967 (by decide) rfl (fun c967 => ?_) (fun c967 => ?_)
  · refine zw_goto (tgt := 1240) K dL_law_989 (by decide) ?_
    refine zw_weakL (lv' := [some (.ref b), some (.ref (ad 0 0 0)), some (.ref (ad 100 0 0)), some (.ref (ad 200 0 0)), some (.int (nI (4 * i))), none, none]) (by simp [zw_le]) ?_
    exact kk Mb (zop_tell σ (xs (4 * i + 1)) (xs (4 * i + 2)) (xs (4 * i + 3))).2.2 (zop_tell σ (xs (4 * i + 1)) (xs (4 * i + 2)) (xs (4 * i + 3))).2.1 (if (zop_tell σ (xs (4 * i + 1)) (xs (4 * i + 2)) (xs (4 * i + 3))).2.1 = 0 then ((zop_tell σ (xs (4 * i + 1)) (xs (4 * i + 2)) (xs (4 * i + 3))).1).toInt64 else o) hI.o_tell ⟨ad', h1, h2, h3, hW2⟩
  · refine zw_aload_n (v := .ref (ad 200 0 0)) (pc' := 971) K dL_law_970 rfl rfl rfl ?_
    refine zw_iconst (v := 0) (pc' := 972) K dL_law_971 (by decide) rfl ?_
    refine zn_lald (j := 0) (v := (((zop_tell σ (xs (4 * i + 1)) (xs (4 * i + 2)) (xs (4 * i + 3))).1).toInt64)) (pc' := 973) K hout rfl (by decide) (by show (if (zop_tell σ (xs (4 * i + 1)) (xs (4 * i + 2)) (xs (4 * i + 3))).2.1 = 0 then ((zop_tell σ (xs (4 * i + 1)) (xs (4 * i + 2)) (xs (4 * i + 3))).1).toInt64 else o) = ((zop_tell σ (xs (4 * i + 1)) (xs (4 * i + 2)) (xs (4 * i + 3))).1).toInt64; exact if_pos c967) dL_law_972 rfl ?_
    refine zw_iload (x := (zop_tell σ (xs (4 * i + 1)) (xs (4 * i + 2)) (xs (4 * i + 3))).1) (pc' := 975) K dL_law_973 rfl rfl ?_
    refine zw_if_eq (tgt := 982) (pc' := 978) K dL_law_975 (by decide) rfl (fun c975 => ?_) (fun c975 => ?_)
    · refine zw_lconst (v := 0) (pc' := 983) K dL_law_982 (by decide) rfl ?_
      refine zw_lcmp (pc' := 984) K dL_law_983 rfl ?_
      refine zw_if_eq (tgt := 989) (pc' := 987) K dL_law_984 (by decide) rfl (fun c984 => ?_) (fun c984 => by exact absurd (by rw [c975]; decide) c984)
      refine zw_goto (tgt := 1240) K dL_law_989 (by decide) ?_
      refine zw_weakL (lv' := [some (.ref b), some (.ref (ad 0 0 0)), some (.ref (ad 100 0 0)), some (.ref (ad 200 0 0)), some (.int (nI (4 * i))), none, none]) (by simp [zw_le]) ?_
      exact kk Mb (zop_tell σ (xs (4 * i + 1)) (xs (4 * i + 2)) (xs (4 * i + 3))).2.2 (zop_tell σ (xs (4 * i + 1)) (xs (4 * i + 2)) (xs (4 * i + 3))).2.1 (if (zop_tell σ (xs (4 * i + 1)) (xs (4 * i + 2)) (xs (4 * i + 3))).2.1 = 0 then ((zop_tell σ (xs (4 * i + 1)) (xs (4 * i + 2)) (xs (4 * i + 3))).1).toInt64 else o) hI.o_tell ⟨ad', h1, h2, h3, hW2⟩
    · refine zw_lconst (v := 1) (pc' := 979) K dL_law_978 (by decide) rfl ?_
      refine zw_goto (tgt := 983) K dL_law_979 (by decide) ?_
      refine zw_lcmp (pc' := 984) K dL_law_983 rfl ?_
      refine zw_if_eq (tgt := 989) (pc' := 987) K dL_law_984 (by decide) rfl (fun c984 => ?_) (fun c984 => by exact absurd (by rw [ztell_01 c975]; decide) c984)
      refine zw_goto (tgt := 1240) K dL_law_989 (by decide) ?_
      refine zw_weakL (lv' := [some (.ref b), some (.ref (ad 0 0 0)), some (.ref (ad 100 0 0)), some (.ref (ad 200 0 0)), some (.int (nI (4 * i))), none, none]) (by simp [zw_le]) ?_
      exact kk Mb (zop_tell σ (xs (4 * i + 1)) (xs (4 * i + 2)) (xs (4 * i + 3))).2.2 (zop_tell σ (xs (4 * i + 1)) (xs (4 * i + 2)) (xs (4 * i + 3))).2.1 (if (zop_tell σ (xs (4 * i + 1)) (xs (4 * i + 2)) (xs (4 * i + 3))).2.1 = 0 then ((zop_tell σ (xs (4 * i + 1)) (xs (4 * i + 2)) (xs (4 * i + 3))).1).toInt64 else o) hI.o_tell ⟨ad', h1, h2, h3, hW2⟩
set_option maxHeartbeats 2000000 in
theorem lc_compensate {X : zw_X} (K : zw_K X cL_law 7 RX0 room_1) {b L : Nat} {xs : Nat → Int32} (hF : zlF X b L xs) {M : zw_M} {c n a0 a1 a2 : Nat} {σ : zS} {th : Int32} {o : Int64} (hw : zWl (zw_Xw X) M a0 a1 a2 σ σ th o) (hI : zI σ) {i : Nat} (hi : 4 * i + 4 ≤ L) (hc : c + 60 ≤ 717834) (hn : n + 2100 ≤ 6846346)
    (kk : ∀ (M' : zw_M) (σ' : zS) (th' : Int32) (o' : Int64), zI σ' → zWl (zw_Xw X) M' a0 a1 a2 σ' σ' th' o' → zw_Z X M' (c + 60) (n + 2100) 1240 [some (.ref b), some (.ref a0), some (.ref a1), some (.ref a2), some (.int (nI (4 * i))), none, none] []) : zw_Z X M c n 992 [some (.ref b), some (.ref a0), some (.ref a1), some (.ref a2), some (.int (nI (4 * i))), none, none] [] := by
  obtain ⟨ad, rfl, rfl, rfl, hW⟩ := hw
  have hl : (zw_Xl X).stackTraces = false := K.2.2.2.2.2.2.2.2
  refine zw_aload_n (v := .ref (ad 0 0 0)) (pc' := 993) K dL_law_992 rfl rfl rfl ?_
  refine zw_aload_n (v := .ref b) (pc' := 994) K dL_law_993 rfl rfl rfl ?_
  refine zw_iload (x := nI (4 * i)) (pc' := 996) K dL_law_994 rfl rfl ?_
  refine zw_iconst (v := 1) (pc' := 997) K dL_law_996 (by decide) rfl ?_
  refine zw_iadd (pc' := 998) K dL_law_997 rfl ?_
  refine zw_sld (j := 4 * i + 1) (pc' := 999) K hF (nI_1 (4 * i)) (by omega) dL_law_998 rfl ?_
  refine zw_aload_n (v := .ref b) (pc' := 1000) K dL_law_999 rfl rfl rfl ?_
  refine zw_iload (x := nI (4 * i)) (pc' := 1002) K dL_law_1000 rfl rfl ?_
  refine zw_iconst (v := 2) (pc' := 1003) K dL_law_1002 (by decide) rfl ?_
  refine zw_iadd (pc' := 1004) K dL_law_1003 rfl ?_
  refine zw_sld (j := 4 * i + 2) (pc' := 1005) K hF (zad_2 (4 * i)) (by omega) dL_law_1004 rfl ?_
  refine zw_aload_n (v := .ref (ad 200 0 0)) (pc' := 1006) K dL_law_1005 rfl rfl rfl ?_
  refine zw_callSW (rest := []) (c' := c + 60) (n' := n + 2100) (pc' := 1009) K (ct_X0_compensate hl hW hI (xs (4 * i + 1)) (xs (4 * i + 2))) q631 q632 q21 q633 ⟨by decide, by decide, by show (parseMethodDescriptor yX0_compensate.desc).map (fun d => d.parameters.length) = some 4; decide +kernel⟩ rfl dL_law_1006 rfl (Nat.le_of_ble_eq_true rfl) ⟨Nat.le_of_ble_eq_true rfl, Nat.le_of_ble_eq_true rfl⟩ ⟨by show c + 2 ≤ c + 60; omega, by show n + 12 ≤ n + 2100; omega, by show c + 60 ≤ 717834; omega, by show n + 2100 ≤ 6846346; omega⟩ (zw_ki fun r Ma h => ?_) zw_kn
  obtain ⟨hr, ad', h1, h2, h3, hW1⟩ := h
  subst hr
  have zm := ct_X2_compensate hl hW1 hI (xs (4 * i + 1)) (xs (4 * i + 2))
  have hmo := hW1.mo
  rw [h2] at zm hmo
  refine zw_istore (lv' := [some (.ref b), some (.ref (ad 0 0 0)), some (.ref (ad 100 0 0)), some (.ref (ad 200 0 0)), some (.int (nI (4 * i))), some (.int ((zop_compensate σ (xs (4 * i + 1)) (xs (4 * i + 2))).2.1)), none]) (pc' := 1011) K dL_law_1009 (by decide) rfl rfl ?_
  refine zw_aload_n (v := .ref (ad 100 0 0)) (pc' := 1012) K dL_law_1011 rfl rfl rfl ?_
  refine zw_aload_n (v := .ref b) (pc' := 1013) K dL_law_1012 rfl rfl rfl ?_
  refine zw_iload (x := nI (4 * i)) (pc' := 1015) K dL_law_1013 rfl rfl ?_
  refine zw_iconst (v := 1) (pc' := 1016) K dL_law_1015 (by decide) rfl ?_
  refine zw_iadd (pc' := 1017) K dL_law_1016 rfl ?_
  refine zw_sld (j := 4 * i + 1) (pc' := 1018) K hF (nI_1 (4 * i)) (by omega) dL_law_1017 rfl ?_
  refine zw_aload_n (v := .ref b) (pc' := 1019) K dL_law_1018 rfl rfl rfl ?_
  refine zw_iload (x := nI (4 * i)) (pc' := 1021) K dL_law_1019 rfl rfl ?_
  refine zw_iconst (v := 2) (pc' := 1022) K dL_law_1021 (by decide) rfl ?_
  refine zw_iadd (pc' := 1023) K dL_law_1022 rfl ?_
  refine zw_sld (j := 4 * i + 2) (pc' := 1024) K hF (zad_2 (4 * i)) (by omega) dL_law_1023 rfl ?_
  refine zc_X0_129 (rest := []) (c' := c + 60) (n' := n + 2100) (pc' := 1027) K (zm) hmo rfl rfl dL_law_1024 rfl (Nat.le_of_ble_eq_true rfl) ⟨Nat.le_of_ble_eq_true rfl, Nat.le_of_ble_eq_true rfl⟩ ⟨by show c + 60 + 0 ≤ c + 60; omega, by show n + 2100 + 0 ≤ n + 2100; omega, by show c + 60 ≤ 717834; omega, by show n + 2100 ≤ 6846346; omega⟩ (zw_ki fun r Mb h => ?_) zw_kn
  obtain ⟨hr, hW2⟩ := h
  subst hr
  have zt := ct_X2_thrown hl hW2
  have hmo2 := hW2.mo
  have hout := hW2.mout
  rw [h2] at zt hmo2
  rw [h3] at hout
  refine zw_istore (lv' := [some (.ref b), some (.ref (ad 0 0 0)), some (.ref (ad 100 0 0)), some (.ref (ad 200 0 0)), some (.int (nI (4 * i))), some (.int ((zop_compensate σ (xs (4 * i + 1)) (xs (4 * i + 2))).2.1)), some (.int ((zop_compensate σ (xs (4 * i + 1)) (xs (4 * i + 2))).1))]) (pc' := 1029) K dL_law_1027 (by decide) rfl rfl ?_
  refine zw_aload_n (v := .ref (ad 100 0 0)) (pc' := 1030) K dL_law_1029 rfl rfl rfl ?_
  refine zc_X0_81 (rest := []) (c' := c + 60) (n' := n + 2100) (pc' := 1033) K (zt) hmo2 rfl rfl dL_law_1030 rfl (Nat.le_of_ble_eq_true rfl) ⟨Nat.le_of_ble_eq_true rfl, Nat.le_of_ble_eq_true rfl⟩ ⟨by show c + 60 + 0 ≤ c + 60; omega, by show n + 2100 + 0 ≤ n + 2100; omega, by show c + 60 ≤ 717834; omega, by show n + 2100 ≤ 6846346; omega⟩ (zw_kp ?_) zw_kn
  refine zw_iload (x := (zop_compensate σ (xs (4 * i + 1)) (xs (4 * i + 2))).2.1) (pc' := 1035) K dL_law_1033 rfl rfl ?_
  refine zw_icmp_eq (tgt := 1040) (pc' := 1038) K dL_law_1035 (by decide) rfl (fun c1035 => ?_) (fun c1035 => by exact absurd rfl c1035)
  refine zw_iload (x := (zop_compensate σ (xs (4 * i + 1)) (xs (4 * i + 2))).2.1) (pc' := 1042) K dL_law_1040 rfl rfl ?_
  refine zw_if_ne (tgt := 1057) (pc' := 1045) K dL_law_1042 (by decide) rfl (fun c1042 => ?_) (fun c1042 => ?_)
  · refine zw_goto (tgt := 1240) K dL_law_1057 (by decide) ?_
    refine zw_weakL (lv' := [some (.ref b), some (.ref (ad 0 0 0)), some (.ref (ad 100 0 0)), some (.ref (ad 200 0 0)), some (.int (nI (4 * i))), none, none]) (by simp [zw_le]) ?_
    exact kk Mb (zop_compensate σ (xs (4 * i + 1)) (xs (4 * i + 2))).2.2 (zop_compensate σ (xs (4 * i + 1)) (xs (4 * i + 2))).2.1 (if (zop_compensate σ (xs (4 * i + 1)) (xs (4 * i + 2))).2.1 = 0 then ((zop_compensate σ (xs (4 * i + 1)) (xs (4 * i + 2))).1).toInt64 else o) hI.o_compensate ⟨ad', h1, h2, h3, hW2⟩
  · refine zw_aload_n (v := .ref (ad 200 0 0)) (pc' := 1046) K dL_law_1045 rfl rfl rfl ?_
    refine zw_iconst (v := 0) (pc' := 1047) K dL_law_1046 (by decide) rfl ?_
    refine zn_lald (j := 0) (v := (((zop_compensate σ (xs (4 * i + 1)) (xs (4 * i + 2))).1).toInt64)) (pc' := 1048) K hout rfl (by decide) (by show (if (zop_compensate σ (xs (4 * i + 1)) (xs (4 * i + 2))).2.1 = 0 then ((zop_compensate σ (xs (4 * i + 1)) (xs (4 * i + 2))).1).toInt64 else o) = ((zop_compensate σ (xs (4 * i + 1)) (xs (4 * i + 2))).1).toInt64; exact if_pos c1042) dL_law_1047 rfl ?_
    refine zw_iload (x := (zop_compensate σ (xs (4 * i + 1)) (xs (4 * i + 2))).1) (pc' := 1050) K dL_law_1048 rfl rfl ?_
    refine zw_i2l (pc' := 1051) K dL_law_1050 rfl ?_
    refine zw_lcmp (pc' := 1052) K dL_law_1051 rfl ?_
    refine zw_if_eq (tgt := 1057) (pc' := 1055) K dL_law_1052 (by decide) rfl (fun c1052 => ?_) (fun c1052 => by exact absurd (zcmp_self _) c1052)
    refine zw_goto (tgt := 1240) K dL_law_1057 (by decide) ?_
    refine zw_weakL (lv' := [some (.ref b), some (.ref (ad 0 0 0)), some (.ref (ad 100 0 0)), some (.ref (ad 200 0 0)), some (.int (nI (4 * i))), none, none]) (by simp [zw_le]) ?_
    exact kk Mb (zop_compensate σ (xs (4 * i + 1)) (xs (4 * i + 2))).2.2 (zop_compensate σ (xs (4 * i + 1)) (xs (4 * i + 2))).2.1 (if (zop_compensate σ (xs (4 * i + 1)) (xs (4 * i + 2))).2.1 = 0 then ((zop_compensate σ (xs (4 * i + 1)) (xs (4 * i + 2))).1).toInt64 else o) hI.o_compensate ⟨ad', h1, h2, h3, hW2⟩
set_option maxHeartbeats 2000000 in
theorem lc_close {X : zw_X} (K : zw_K X cL_law 7 RX0 room_1) {b L : Nat} {xs : Nat → Int32} (hF : zlF X b L xs) {M : zw_M} {c n a0 a1 a2 : Nat} {σ : zS} {th : Int32} {o : Int64} (hw : zWl (zw_Xw X) M a0 a1 a2 σ σ th o) (hI : zI σ) {i : Nat} (hi : 4 * i + 4 ≤ L) (hc : c + 60 ≤ 717834) (hn : n + 2100 ≤ 6846346)
    (kk : ∀ (M' : zw_M) (σ' : zS) (th' : Int32) (o' : Int64), zI σ' → zWl (zw_Xw X) M' a0 a1 a2 σ' σ' th' o' → zw_Z X M' (c + 60) (n + 2100) 1240 [some (.ref b), some (.ref a0), some (.ref a1), some (.ref a2), some (.int (nI (4 * i))), none, none] []) : zw_Z X M c n 1060 [some (.ref b), some (.ref a0), some (.ref a1), some (.ref a2), some (.int (nI (4 * i))), none, none] [] := by
  obtain ⟨ad, rfl, rfl, rfl, hW⟩ := hw
  have hl : (zw_Xl X).stackTraces = false := K.2.2.2.2.2.2.2.2
  refine zw_aload_n (v := .ref (ad 0 0 0)) (pc' := 1061) K dL_law_1060 rfl rfl rfl ?_
  refine zw_aload_n (v := .ref b) (pc' := 1062) K dL_law_1061 rfl rfl rfl ?_
  refine zw_iload (x := nI (4 * i)) (pc' := 1064) K dL_law_1062 rfl rfl ?_
  refine zw_iconst (v := 1) (pc' := 1065) K dL_law_1064 (by decide) rfl ?_
  refine zw_iadd (pc' := 1066) K dL_law_1065 rfl ?_
  refine zw_sld (j := 4 * i + 1) (pc' := 1067) K hF (nI_1 (4 * i)) (by omega) dL_law_1066 rfl ?_
  refine zw_aload_n (v := .ref (ad 200 0 0)) (pc' := 1068) K dL_law_1067 rfl rfl rfl ?_
  refine zw_callSW (rest := []) (c' := c + 60) (n' := n + 2100) (pc' := 1071) K (ct_X0_close hl hW hI (xs (4 * i + 1))) q638 q639 q21 q640 ⟨by decide, by decide, by show (parseMethodDescriptor yX0_close.desc).map (fun d => d.parameters.length) = some 3; decide +kernel⟩ rfl dL_law_1068 rfl (Nat.le_of_ble_eq_true rfl) ⟨Nat.le_of_ble_eq_true rfl, Nat.le_of_ble_eq_true rfl⟩ ⟨by show c + 4 ≤ c + 60; omega, by show n + 14 ≤ n + 2100; omega, by show c + 60 ≤ 717834; omega, by show n + 2100 ≤ 6846346; omega⟩ (zw_ki fun r Ma h => ?_) zw_kn
  obtain ⟨hr, ad', h1, h2, h3, hW1⟩ := h
  subst hr
  have zm := ct_X2_close hl hW1 hI (xs (4 * i + 1))
  have hmo := hW1.mo
  rw [h2] at zm hmo
  refine zw_istore (lv' := [some (.ref b), some (.ref (ad 0 0 0)), some (.ref (ad 100 0 0)), some (.ref (ad 200 0 0)), some (.int (nI (4 * i))), some (.int ((zop_close σ (xs (4 * i + 1))).2.1)), none]) (pc' := 1073) K dL_law_1071 (by decide) rfl rfl ?_
  refine zw_aload_n (v := .ref (ad 100 0 0)) (pc' := 1074) K dL_law_1073 rfl rfl rfl ?_
  refine zw_aload_n (v := .ref b) (pc' := 1075) K dL_law_1074 rfl rfl rfl ?_
  refine zw_iload (x := nI (4 * i)) (pc' := 1077) K dL_law_1075 rfl rfl ?_
  refine zw_iconst (v := 1) (pc' := 1078) K dL_law_1077 (by decide) rfl ?_
  refine zw_iadd (pc' := 1079) K dL_law_1078 rfl ?_
  refine zw_sld (j := 4 * i + 1) (pc' := 1080) K hF (nI_1 (4 * i)) (by omega) dL_law_1079 rfl ?_
  refine zc_X0_132 (rest := []) (c' := c + 60) (n' := n + 2100) (pc' := 1083) K (zm) hmo rfl rfl dL_law_1080 rfl (Nat.le_of_ble_eq_true rfl) ⟨Nat.le_of_ble_eq_true rfl, Nat.le_of_ble_eq_true rfl⟩ ⟨by show c + 60 + 0 ≤ c + 60; omega, by show n + 2100 + 0 ≤ n + 2100; omega, by show c + 60 ≤ 717834; omega, by show n + 2100 ≤ 6846346; omega⟩ (zw_ki fun r Mb h => ?_) zw_kn
  obtain ⟨hr, hW2⟩ := h
  subst hr
  have zt := ct_X2_thrown hl hW2
  have hmo2 := hW2.mo
  have hout := hW2.mout
  rw [h2] at zt hmo2
  rw [h3] at hout
  refine zw_istore (lv' := [some (.ref b), some (.ref (ad 0 0 0)), some (.ref (ad 100 0 0)), some (.ref (ad 200 0 0)), some (.int (nI (4 * i))), some (.int ((zop_close σ (xs (4 * i + 1))).2.1)), some (.int ((zop_close σ (xs (4 * i + 1))).1))]) (pc' := 1085) K dL_law_1083 (by decide) rfl rfl ?_
  refine zw_aload_n (v := .ref (ad 100 0 0)) (pc' := 1086) K dL_law_1085 rfl rfl rfl ?_
  refine zc_X0_81 (rest := []) (c' := c + 60) (n' := n + 2100) (pc' := 1089) K (zt) hmo2 rfl rfl dL_law_1086 rfl (Nat.le_of_ble_eq_true rfl) ⟨Nat.le_of_ble_eq_true rfl, Nat.le_of_ble_eq_true rfl⟩ ⟨by show c + 60 + 0 ≤ c + 60; omega, by show n + 2100 + 0 ≤ n + 2100; omega, by show c + 60 ≤ 717834; omega, by show n + 2100 ≤ 6846346; omega⟩ (zw_kp ?_) zw_kn
  refine zw_iload (x := (zop_close σ (xs (4 * i + 1))).2.1) (pc' := 1091) K dL_law_1089 rfl rfl ?_
  refine zw_icmp_eq (tgt := 1096) (pc' := 1094) K dL_law_1091 (by decide) rfl (fun c1091 => ?_) (fun c1091 => by exact absurd rfl c1091)
  refine zw_iload (x := (zop_close σ (xs (4 * i + 1))).2.1) (pc' := 1098) K dL_law_1096 rfl rfl ?_
  refine zw_if_ne (tgt := 1113) (pc' := 1101) K dL_law_1098 (by decide) rfl (fun c1098 => ?_) (fun c1098 => ?_)
  · refine zw_goto (tgt := 1240) K dL_law_1113 (by decide) ?_
    refine zw_weakL (lv' := [some (.ref b), some (.ref (ad 0 0 0)), some (.ref (ad 100 0 0)), some (.ref (ad 200 0 0)), some (.int (nI (4 * i))), none, none]) (by simp [zw_le]) ?_
    exact kk Mb (zop_close σ (xs (4 * i + 1))).2.2 (zop_close σ (xs (4 * i + 1))).2.1 (if (zop_close σ (xs (4 * i + 1))).2.1 = 0 then ((zop_close σ (xs (4 * i + 1))).1).toInt64 else o) hI.o_close ⟨ad', h1, h2, h3, hW2⟩
  · refine zw_aload_n (v := .ref (ad 200 0 0)) (pc' := 1102) K dL_law_1101 rfl rfl rfl ?_
    refine zw_iconst (v := 0) (pc' := 1103) K dL_law_1102 (by decide) rfl ?_
    refine zn_lald (j := 0) (v := (((zop_close σ (xs (4 * i + 1))).1).toInt64)) (pc' := 1104) K hout rfl (by decide) (by show (if (zop_close σ (xs (4 * i + 1))).2.1 = 0 then ((zop_close σ (xs (4 * i + 1))).1).toInt64 else o) = ((zop_close σ (xs (4 * i + 1))).1).toInt64; exact if_pos c1098) dL_law_1103 rfl ?_
    refine zw_iload (x := (zop_close σ (xs (4 * i + 1))).1) (pc' := 1106) K dL_law_1104 rfl rfl ?_
    refine zw_i2l (pc' := 1107) K dL_law_1106 rfl ?_
    refine zw_lcmp (pc' := 1108) K dL_law_1107 rfl ?_
    refine zw_if_eq (tgt := 1113) (pc' := 1111) K dL_law_1108 (by decide) rfl (fun c1108 => ?_) (fun c1108 => by exact absurd (zcmp_self _) c1108)
    refine zw_goto (tgt := 1240) K dL_law_1113 (by decide) ?_
    refine zw_weakL (lv' := [some (.ref b), some (.ref (ad 0 0 0)), some (.ref (ad 100 0 0)), some (.ref (ad 200 0 0)), some (.int (nI (4 * i))), none, none]) (by simp [zw_le]) ?_
    exact kk Mb (zop_close σ (xs (4 * i + 1))).2.2 (zop_close σ (xs (4 * i + 1))).2.1 (if (zop_close σ (xs (4 * i + 1))).2.1 = 0 then ((zop_close σ (xs (4 * i + 1))).1).toInt64 else o) hI.o_close ⟨ad', h1, h2, h3, hW2⟩
set_option maxHeartbeats 2000000 in
theorem lc_fine {X : zw_X} (K : zw_K X cL_law 7 RX0 room_1) {b L : Nat} {xs : Nat → Int32} (hF : zlF X b L xs) {M : zw_M} {c n a0 a1 a2 : Nat} {σ : zS} {th : Int32} {o : Int64} (hw : zWl (zw_Xw X) M a0 a1 a2 σ σ th o) (hI : zI σ) {i : Nat} (hi : 4 * i + 4 ≤ L) (hc : c + 60 ≤ 717834) (hn : n + 2100 ≤ 6846346)
    (kk : ∀ (M' : zw_M) (σ' : zS) (th' : Int32) (o' : Int64), zI σ' → zWl (zw_Xw X) M' a0 a1 a2 σ' σ' th' o' → zw_Z X M' (c + 60) (n + 2100) 1240 [some (.ref b), some (.ref a0), some (.ref a1), some (.ref a2), some (.int (nI (4 * i))), none, none] []) : zw_Z X M c n 1116 [some (.ref b), some (.ref a0), some (.ref a1), some (.ref a2), some (.int (nI (4 * i))), none, none] [] := by
  obtain ⟨ad, rfl, rfl, rfl, hW⟩ := hw
  have hl : (zw_Xl X).stackTraces = false := K.2.2.2.2.2.2.2.2
  refine zw_aload_n (v := .ref (ad 0 0 0)) (pc' := 1117) K dL_law_1116 rfl rfl rfl ?_
  refine zw_aload_n (v := .ref b) (pc' := 1118) K dL_law_1117 rfl rfl rfl ?_
  refine zw_iload (x := nI (4 * i)) (pc' := 1120) K dL_law_1118 rfl rfl ?_
  refine zw_iconst (v := 1) (pc' := 1121) K dL_law_1120 (by decide) rfl ?_
  refine zw_iadd (pc' := 1122) K dL_law_1121 rfl ?_
  refine zw_sld (j := 4 * i + 1) (pc' := 1123) K hF (nI_1 (4 * i)) (by omega) dL_law_1122 rfl ?_
  refine zw_aload_n (v := .ref b) (pc' := 1124) K dL_law_1123 rfl rfl rfl ?_
  refine zw_iload (x := nI (4 * i)) (pc' := 1126) K dL_law_1124 rfl rfl ?_
  refine zw_iconst (v := 2) (pc' := 1127) K dL_law_1126 (by decide) rfl ?_
  refine zw_iadd (pc' := 1128) K dL_law_1127 rfl ?_
  refine zw_sld (j := 4 * i + 2) (pc' := 1129) K hF (zad_2 (4 * i)) (by omega) dL_law_1128 rfl ?_
  refine zw_aload_n (v := .ref (ad 200 0 0)) (pc' := 1130) K dL_law_1129 rfl rfl rfl ?_
  refine zw_callSW (rest := []) (c' := c + 60) (n' := n + 2100) (pc' := 1133) K (ct_X0_fine hl hW hI (xs (4 * i + 1)) (xs (4 * i + 2))) q656 q657 q21 q658 ⟨by decide, by decide, by show (parseMethodDescriptor yX0_fine.desc).map (fun d => d.parameters.length) = some 4; decide +kernel⟩ rfl dL_law_1130 rfl (Nat.le_of_ble_eq_true rfl) ⟨Nat.le_of_ble_eq_true rfl, Nat.le_of_ble_eq_true rfl⟩ ⟨by show c + 2 ≤ c + 60; omega, by show n + 12 ≤ n + 2100; omega, by show c + 60 ≤ 717834; omega, by show n + 2100 ≤ 6846346; omega⟩ (zw_ki fun r Ma h => ?_) zw_kn
  obtain ⟨hr, ad', h1, h2, h3, hW1⟩ := h
  subst hr
  have zm := ct_X2_fine hl hW1 hI (xs (4 * i + 1)) (xs (4 * i + 2))
  have hmo := hW1.mo
  rw [h2] at zm hmo
  refine zw_istore (lv' := [some (.ref b), some (.ref (ad 0 0 0)), some (.ref (ad 100 0 0)), some (.ref (ad 200 0 0)), some (.int (nI (4 * i))), some (.int ((zop_fine σ (xs (4 * i + 1)) (xs (4 * i + 2))).2.1)), none]) (pc' := 1135) K dL_law_1133 (by decide) rfl rfl ?_
  refine zw_aload_n (v := .ref (ad 100 0 0)) (pc' := 1136) K dL_law_1135 rfl rfl rfl ?_
  refine zw_aload_n (v := .ref b) (pc' := 1137) K dL_law_1136 rfl rfl rfl ?_
  refine zw_iload (x := nI (4 * i)) (pc' := 1139) K dL_law_1137 rfl rfl ?_
  refine zw_iconst (v := 1) (pc' := 1140) K dL_law_1139 (by decide) rfl ?_
  refine zw_iadd (pc' := 1141) K dL_law_1140 rfl ?_
  refine zw_sld (j := 4 * i + 1) (pc' := 1142) K hF (nI_1 (4 * i)) (by omega) dL_law_1141 rfl ?_
  refine zw_aload_n (v := .ref b) (pc' := 1143) K dL_law_1142 rfl rfl rfl ?_
  refine zw_iload (x := nI (4 * i)) (pc' := 1145) K dL_law_1143 rfl rfl ?_
  refine zw_iconst (v := 2) (pc' := 1146) K dL_law_1145 (by decide) rfl ?_
  refine zw_iadd (pc' := 1147) K dL_law_1146 rfl ?_
  refine zw_sld (j := 4 * i + 2) (pc' := 1148) K hF (zad_2 (4 * i)) (by omega) dL_law_1147 rfl ?_
  refine zc_X0_135 (rest := []) (c' := c + 60) (n' := n + 2100) (pc' := 1151) K (zm) hmo rfl rfl dL_law_1148 rfl (Nat.le_of_ble_eq_true rfl) ⟨Nat.le_of_ble_eq_true rfl, Nat.le_of_ble_eq_true rfl⟩ ⟨by show c + 60 + 0 ≤ c + 60; omega, by show n + 2100 + 0 ≤ n + 2100; omega, by show c + 60 ≤ 717834; omega, by show n + 2100 ≤ 6846346; omega⟩ (zw_ki fun r Mb h => ?_) zw_kn
  obtain ⟨hr, hW2⟩ := h
  subst hr
  have zt := ct_X2_thrown hl hW2
  have hmo2 := hW2.mo
  have hout := hW2.mout
  rw [h2] at zt hmo2
  rw [h3] at hout
  refine zw_istore (lv' := [some (.ref b), some (.ref (ad 0 0 0)), some (.ref (ad 100 0 0)), some (.ref (ad 200 0 0)), some (.int (nI (4 * i))), some (.int ((zop_fine σ (xs (4 * i + 1)) (xs (4 * i + 2))).2.1)), some (.int ((zop_fine σ (xs (4 * i + 1)) (xs (4 * i + 2))).1))]) (pc' := 1153) K dL_law_1151 (by decide) rfl rfl ?_
  refine zw_aload_n (v := .ref (ad 100 0 0)) (pc' := 1154) K dL_law_1153 rfl rfl rfl ?_
  refine zc_X0_81 (rest := []) (c' := c + 60) (n' := n + 2100) (pc' := 1157) K (zt) hmo2 rfl rfl dL_law_1154 rfl (Nat.le_of_ble_eq_true rfl) ⟨Nat.le_of_ble_eq_true rfl, Nat.le_of_ble_eq_true rfl⟩ ⟨by show c + 60 + 0 ≤ c + 60; omega, by show n + 2100 + 0 ≤ n + 2100; omega, by show c + 60 ≤ 717834; omega, by show n + 2100 ≤ 6846346; omega⟩ (zw_kp ?_) zw_kn
  refine zw_iload (x := (zop_fine σ (xs (4 * i + 1)) (xs (4 * i + 2))).2.1) (pc' := 1159) K dL_law_1157 rfl rfl ?_
  refine zw_icmp_eq (tgt := 1164) (pc' := 1162) K dL_law_1159 (by decide) rfl (fun c1159 => ?_) (fun c1159 => by exact absurd rfl c1159)
  refine zw_iload (x := (zop_fine σ (xs (4 * i + 1)) (xs (4 * i + 2))).2.1) (pc' := 1166) K dL_law_1164 rfl rfl ?_
  refine zw_if_ne (tgt := 1181) (pc' := 1169) K dL_law_1166 (by decide) rfl (fun c1166 => ?_) (fun c1166 => ?_)
  · refine zw_goto (tgt := 1240) K dL_law_1181 (by decide) ?_
    refine zw_weakL (lv' := [some (.ref b), some (.ref (ad 0 0 0)), some (.ref (ad 100 0 0)), some (.ref (ad 200 0 0)), some (.int (nI (4 * i))), none, none]) (by simp [zw_le]) ?_
    exact kk Mb (zop_fine σ (xs (4 * i + 1)) (xs (4 * i + 2))).2.2 (zop_fine σ (xs (4 * i + 1)) (xs (4 * i + 2))).2.1 (if (zop_fine σ (xs (4 * i + 1)) (xs (4 * i + 2))).2.1 = 0 then ((zop_fine σ (xs (4 * i + 1)) (xs (4 * i + 2))).1).toInt64 else o) hI.o_fine ⟨ad', h1, h2, h3, hW2⟩
  · refine zw_aload_n (v := .ref (ad 200 0 0)) (pc' := 1170) K dL_law_1169 rfl rfl rfl ?_
    refine zw_iconst (v := 0) (pc' := 1171) K dL_law_1170 (by decide) rfl ?_
    refine zn_lald (j := 0) (v := (((zop_fine σ (xs (4 * i + 1)) (xs (4 * i + 2))).1).toInt64)) (pc' := 1172) K hout rfl (by decide) (by show (if (zop_fine σ (xs (4 * i + 1)) (xs (4 * i + 2))).2.1 = 0 then ((zop_fine σ (xs (4 * i + 1)) (xs (4 * i + 2))).1).toInt64 else o) = ((zop_fine σ (xs (4 * i + 1)) (xs (4 * i + 2))).1).toInt64; exact if_pos c1166) dL_law_1171 rfl ?_
    refine zw_iload (x := (zop_fine σ (xs (4 * i + 1)) (xs (4 * i + 2))).1) (pc' := 1174) K dL_law_1172 rfl rfl ?_
    refine zw_i2l (pc' := 1175) K dL_law_1174 rfl ?_
    refine zw_lcmp (pc' := 1176) K dL_law_1175 rfl ?_
    refine zw_if_eq (tgt := 1181) (pc' := 1179) K dL_law_1176 (by decide) rfl (fun c1176 => ?_) (fun c1176 => by exact absurd (zcmp_self _) c1176)
    refine zw_goto (tgt := 1240) K dL_law_1181 (by decide) ?_
    refine zw_weakL (lv' := [some (.ref b), some (.ref (ad 0 0 0)), some (.ref (ad 100 0 0)), some (.ref (ad 200 0 0)), some (.int (nI (4 * i))), none, none]) (by simp [zw_le]) ?_
    exact kk Mb (zop_fine σ (xs (4 * i + 1)) (xs (4 * i + 2))).2.2 (zop_fine σ (xs (4 * i + 1)) (xs (4 * i + 2))).2.1 (if (zop_fine σ (xs (4 * i + 1)) (xs (4 * i + 2))).2.1 = 0 then ((zop_fine σ (xs (4 * i + 1)) (xs (4 * i + 2))).1).toInt64 else o) hI.o_fine ⟨ad', h1, h2, h3, hW2⟩
set_option maxHeartbeats 2000000 in
theorem lc_firstTeller {X : zw_X} (K : zw_K X cL_law 7 RX0 room_1) {b L : Nat} {xs : Nat → Int32} (hF : zlF X b L xs) {M : zw_M} {c n a0 a1 a2 : Nat} {σ : zS} {th : Int32} {o : Int64} (hw : zWl (zw_Xw X) M a0 a1 a2 σ σ th o) (hI : zI σ) {i : Nat} (hi : 4 * i + 4 ≤ L) (hc : c + 60 ≤ 717834) (hn : n + 2100 ≤ 6846346)
    (kk : ∀ (M' : zw_M) (σ' : zS) (th' : Int32) (o' : Int64), zI σ' → zWl (zw_Xw X) M' a0 a1 a2 σ' σ' th' o' → zw_Z X M' (c + 60) (n + 2100) 1240 [some (.ref b), some (.ref a0), some (.ref a1), some (.ref a2), some (.int (nI (4 * i))), none, none] []) : zw_Z X M c n 1184 [some (.ref b), some (.ref a0), some (.ref a1), some (.ref a2), some (.int (nI (4 * i))), none, none] [] := by
  obtain ⟨ad, rfl, rfl, rfl, hW⟩ := hw
  have hl : (zw_Xl X).stackTraces = false := K.2.2.2.2.2.2.2.2
  refine zw_aload_n (v := .ref (ad 0 0 0)) (pc' := 1185) K dL_law_1184 rfl rfl rfl ?_
  refine zw_aload_n (v := .ref b) (pc' := 1186) K dL_law_1185 rfl rfl rfl ?_
  refine zw_iload (x := nI (4 * i)) (pc' := 1188) K dL_law_1186 rfl rfl ?_
  refine zw_iconst (v := 1) (pc' := 1189) K dL_law_1188 (by decide) rfl ?_
  refine zw_iadd (pc' := 1190) K dL_law_1189 rfl ?_
  refine zw_sld (j := 4 * i + 1) (pc' := 1191) K hF (nI_1 (4 * i)) (by omega) dL_law_1190 rfl ?_
  refine zw_aload_n (v := .ref (ad 200 0 0)) (pc' := 1192) K dL_law_1191 rfl rfl rfl ?_
  refine zw_callSW (rest := []) (c' := c + 60) (n' := n + 2100) (pc' := 1195) K (ct_X0_firstTeller hl hW hI (xs (4 * i + 1))) q663 q664 q21 q665 ⟨by decide, by decide, by show (parseMethodDescriptor yX0_firstTeller.desc).map (fun d => d.parameters.length) = some 3; decide +kernel⟩ rfl dL_law_1192 rfl (Nat.le_of_ble_eq_true rfl) ⟨Nat.le_of_ble_eq_true rfl, Nat.le_of_ble_eq_true rfl⟩ ⟨by show c + 1 ≤ c + 60; omega, by show n + 6 ≤ n + 2100; omega, by show c + 60 ≤ 717834; omega, by show n + 2100 ≤ 6846346; omega⟩ (zw_ki fun r Ma h => ?_) zw_kn
  obtain ⟨hr, ad', h1, h2, h3, hW1⟩ := h
  subst hr
  have zm := ct_X2_firstTeller hl hW1 hI (xs (4 * i + 1))
  have hmo := hW1.mo
  rw [h2] at zm hmo
  refine zw_istore (lv' := [some (.ref b), some (.ref (ad 0 0 0)), some (.ref (ad 100 0 0)), some (.ref (ad 200 0 0)), some (.int (nI (4 * i))), some (.int ((zop_firstTeller σ (xs (4 * i + 1))).2.1)), none]) (pc' := 1197) K dL_law_1195 (by decide) rfl rfl ?_
  refine zw_aload_n (v := .ref (ad 100 0 0)) (pc' := 1198) K dL_law_1197 rfl rfl rfl ?_
  refine zw_aload_n (v := .ref b) (pc' := 1199) K dL_law_1198 rfl rfl rfl ?_
  refine zw_iload (x := nI (4 * i)) (pc' := 1201) K dL_law_1199 rfl rfl ?_
  refine zw_iconst (v := 1) (pc' := 1202) K dL_law_1201 (by decide) rfl ?_
  refine zw_iadd (pc' := 1203) K dL_law_1202 rfl ?_
  refine zw_sld (j := 4 * i + 1) (pc' := 1204) K hF (nI_1 (4 * i)) (by omega) dL_law_1203 rfl ?_
  refine zc_X0_138 (rest := []) (c' := c + 60) (n' := n + 2100) (pc' := 1207) K (zm) hmo rfl rfl dL_law_1204 rfl (Nat.le_of_ble_eq_true rfl) ⟨Nat.le_of_ble_eq_true rfl, Nat.le_of_ble_eq_true rfl⟩ ⟨by show c + 60 + 0 ≤ c + 60; omega, by show n + 2100 + 0 ≤ n + 2100; omega, by show c + 60 ≤ 717834; omega, by show n + 2100 ≤ 6846346; omega⟩ (zw_ki fun r Mb h => ?_) zw_kn
  obtain ⟨hr, hW2⟩ := h
  subst hr
  have zt := ct_X2_thrown hl hW2
  have hmo2 := hW2.mo
  have hout := hW2.mout
  rw [h2] at zt hmo2
  rw [h3] at hout
  refine zw_istore (lv' := [some (.ref b), some (.ref (ad 0 0 0)), some (.ref (ad 100 0 0)), some (.ref (ad 200 0 0)), some (.int (nI (4 * i))), some (.int ((zop_firstTeller σ (xs (4 * i + 1))).2.1)), some (.int ((zop_firstTeller σ (xs (4 * i + 1))).1))]) (pc' := 1209) K dL_law_1207 (by decide) rfl rfl ?_
  refine zw_aload_n (v := .ref (ad 100 0 0)) (pc' := 1210) K dL_law_1209 rfl rfl rfl ?_
  refine zc_X0_81 (rest := []) (c' := c + 60) (n' := n + 2100) (pc' := 1213) K (zt) hmo2 rfl rfl dL_law_1210 rfl (Nat.le_of_ble_eq_true rfl) ⟨Nat.le_of_ble_eq_true rfl, Nat.le_of_ble_eq_true rfl⟩ ⟨by show c + 60 + 0 ≤ c + 60; omega, by show n + 2100 + 0 ≤ n + 2100; omega, by show c + 60 ≤ 717834; omega, by show n + 2100 ≤ 6846346; omega⟩ (zw_kp ?_) zw_kn
  refine zw_iload (x := (zop_firstTeller σ (xs (4 * i + 1))).2.1) (pc' := 1215) K dL_law_1213 rfl rfl ?_
  refine zw_icmp_eq (tgt := 1220) (pc' := 1218) K dL_law_1215 (by decide) rfl (fun c1215 => ?_) (fun c1215 => by exact absurd rfl c1215)
  refine zw_iload (x := (zop_firstTeller σ (xs (4 * i + 1))).2.1) (pc' := 1222) K dL_law_1220 rfl rfl ?_
  refine zw_if_ne (tgt := 1237) (pc' := 1225) K dL_law_1222 (by decide) rfl (fun c1222 => ?_) (fun c1222 => ?_)
  · refine zw_goto (tgt := 1240) K dL_law_1237 (by decide) ?_
    refine zw_weakL (lv' := [some (.ref b), some (.ref (ad 0 0 0)), some (.ref (ad 100 0 0)), some (.ref (ad 200 0 0)), some (.int (nI (4 * i))), none, none]) (by simp [zw_le]) ?_
    exact kk Mb (zop_firstTeller σ (xs (4 * i + 1))).2.2 (zop_firstTeller σ (xs (4 * i + 1))).2.1 (if (zop_firstTeller σ (xs (4 * i + 1))).2.1 = 0 then ((zop_firstTeller σ (xs (4 * i + 1))).1).toInt64 else o) hI.o_firstTeller ⟨ad', h1, h2, h3, hW2⟩
  · refine zw_aload_n (v := .ref (ad 200 0 0)) (pc' := 1226) K dL_law_1225 rfl rfl rfl ?_
    refine zw_iconst (v := 0) (pc' := 1227) K dL_law_1226 (by decide) rfl ?_
    refine zn_lald (j := 0) (v := (((zop_firstTeller σ (xs (4 * i + 1))).1).toInt64)) (pc' := 1228) K hout rfl (by decide) (by show (if (zop_firstTeller σ (xs (4 * i + 1))).2.1 = 0 then ((zop_firstTeller σ (xs (4 * i + 1))).1).toInt64 else o) = ((zop_firstTeller σ (xs (4 * i + 1))).1).toInt64; exact if_pos c1222) dL_law_1227 rfl ?_
    refine zw_iload (x := (zop_firstTeller σ (xs (4 * i + 1))).1) (pc' := 1230) K dL_law_1228 rfl rfl ?_
    refine zw_i2l (pc' := 1231) K dL_law_1230 rfl ?_
    refine zw_lcmp (pc' := 1232) K dL_law_1231 rfl ?_
    refine zw_if_eq (tgt := 1237) (pc' := 1235) K dL_law_1232 (by decide) rfl (fun c1232 => ?_) (fun c1232 => by exact absurd (zcmp_self _) c1232)
    refine zw_goto (tgt := 1240) K dL_law_1237 (by decide) ?_
    refine zw_weakL (lv' := [some (.ref b), some (.ref (ad 0 0 0)), some (.ref (ad 100 0 0)), some (.ref (ad 200 0 0)), some (.int (nI (4 * i))), none, none]) (by simp [zw_le]) ?_
    exact kk Mb (zop_firstTeller σ (xs (4 * i + 1))).2.2 (zop_firstTeller σ (xs (4 * i + 1))).2.1 (if (zop_firstTeller σ (xs (4 * i + 1))).2.1 = 0 then ((zop_firstTeller σ (xs (4 * i + 1))).1).toInt64 else o) hI.o_firstTeller ⟨ad', h1, h2, h3, hW2⟩
