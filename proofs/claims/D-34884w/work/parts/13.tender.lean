/-! Bid, Pair, Tender: their pictures and the contracts of their methods -/
set_option maxRecDepth 100000
theorem zw_uu {M : zw_M} {a : Nat} {e e' : zw_En} : zw_u (zw_u M a e) a e' = zw_u M a e' := by
  funext b
  by_cases h : b = a
  · subst h; rw [zw_us, zw_us]
  · rw [zw_un h, zw_un h, zw_un h]
/-- a tender: the object t; s: the sums of its bids by bidder, 0 for none; g: what was withdrawn -/
def zt_T (w : zw_W) (M : zw_M) (t : Nat) (op wi pa pt : Int32) (s g : Nat → Int32) : Prop :=
  ∃ (bs : Nat) (f : Nat → Option Nat), M t = some (zw_eC 1 [.ref bs, .int op, .int wi, .int pa, .int pt]) ∧ M bs = some (zw_eB w 7 f) ∧ ∀ b, b < 7 → (f b = none ∧ s b = 0) ∨ ∃ q, f b = some q ∧ M q = some (zw_eC 2 [.int (s b), .int (g b)]) ∧ 0 < s b
def zs_st (s g : Nat → Int32) (b : Nat) : Bool := decide (0 < s b) && (g b == 0)
def zs_wd (s g : Nat → Int32) (b : Nat) : Bool := decide (0 < s b) && !(g b == 0)
def zs_leastF (s g : Nat → Int32) (b : Nat) (acc : Int32) : Int32 := if (zs_st s g b && (acc == -1 || decide (s b < s acc.toNatClampNeg))) = true then nI b else acc
def zs_least (s g : Nat → Int32) : Int32 := zf (zs_leastF s g) 7 (-1)
def zs_min (x y : Int32) : Int32 := if y < x then y else x
def zs_max (x y : Int32) : Int32 := if x < y then y else x
theorem zs_neg1 (j : Nat) (h : j < 100) : ¬ nI j = -1 := by
  intro q
  have h1 := congrArg Int32.toInt q
  rw [nI_toInt (by omega)] at h1
  have h2 : (-1 : Int32).toInt = -1 := by decide
  omega

set_option maxHeartbeats 2000000 in
theorem ct_X4_init {w : zw_W} {l : Launch} (hl : l.stackTraces = false) (M : zw_M) (a : Nat) (x : Int32) (hM : M a = some (zw_eC 2 [.int 0, .int 0])) : zw_C w l yX4_init cX4_init 2 (Option.none : Option Jvm.ClassFile.FieldType) (zr 1 0 0) [.ref a, .int x] M (zw_pv fun M1 => M1 = zw_u M a (zw_eC 2 [.int x, .int 0])) zw_no := by
  refine zw_enter RX4 rfl (by decide) hl (by simp [Value.category]) (Nat.le_of_ble_eq_true rfl) (fun X hXl hXw K hE htab hcon => ?_)
  subst hXl; subst hXw
  show zw_Z X _ 0 0 0 [some (.ref a), some (.int x)] []
  refine zw_aload_n (v := .ref a) (pc' := 1) K dX4_init_0 rfl rfl rfl ?_
  refine zw_objInit (pc' := 4) K q430 q52 q53 dX4_init_1 rfl ⟨Nat.le_of_ble_eq_true rfl, Nat.le_of_ble_eq_true rfl⟩ ?_
  refine zw_aload_n (v := .ref a) (pc' := 5) K dX4_init_4 rfl rfl rfl ?_
  refine zw_iload_n (x := x) (pc' := 6) K dX4_init_5 rfl rfl ?_
  refine zp_X4_7 (v := .int x) (pc' := 9) K hcon hM rfl rfl (by simp) dX4_init_6 rfl ?_
  refine zw_nmM (fun M1 eM1 => ?_)
  have f2 : M1 a = some (zw_eC 2 [.int x, .int 0]) := by rw [eM1]; exact zw_us
  exact zw_vret K hE dX4_init_9 ⟨Nat.le_of_ble_eq_true rfl, Nat.le_of_ble_eq_true rfl⟩ (by rw [eM1]; rfl)
set_option maxHeartbeats 2000000 in
theorem ct_X5_init {w : zw_W} {l : Launch} (hl : l.stackTraces = false) (M : zw_M) (a : Nat) (x y : Int32) (hM : M a = some (zw_eC 3 [.int 0, .int 0])) : zw_C w l yX5_init cX5_init 3 (Option.none : Option Jvm.ClassFile.FieldType) (zr 2 0 0) [.ref a, .int x, .int y] M (zw_pv fun M1 => M1 = zw_u M a (zw_eC 3 [.int (zs_min x y), .int (zs_max x y)])) zw_no := by
  refine zw_enter RX5 rfl (by decide) hl (by simp [Value.category]) (Nat.le_of_ble_eq_true rfl) (fun X hXl hXw K hE htab hcon => ?_)
  subst hXl; subst hXw
  show zw_Z X _ 0 0 0 [some (.ref a), some (.int x), some (.int y)] []
  refine zw_aload_n (v := .ref a) (pc' := 1) K dX5_init_0 rfl rfl rfl ?_
  refine zw_objInit (pc' := 4) K q103 q52 q53 dX5_init_1 rfl ⟨Nat.le_of_ble_eq_true rfl, Nat.le_of_ble_eq_true rfl⟩ ?_
  refine zw_aload_n (v := .ref a) (pc' := 5) K dX5_init_4 rfl rfl rfl ?_
  refine zw_iload_n (x := x) (pc' := 6) K dX5_init_5 rfl rfl ?_
  refine zw_iload_n (x := y) (pc' := 7) K dX5_init_6 rfl rfl ?_
  refine zw_min (pc' := 10) K q104 q105 q33 q106 ⟨Nat.le_of_ble_eq_true rfl, Nat.le_of_ble_eq_true rfl, Nat.le_of_ble_eq_true rfl, Nat.le_of_ble_eq_true rfl⟩ dX5_init_7 rfl ?_
  refine zp_X5_13 (v := .int (if y < x then y else x)) (pc' := 13) K hcon hM rfl rfl (by simp) dX5_init_10 rfl ?_
  refine zw_nmM (fun M1 eM1 => ?_)
  have f2 : M1 a = some (zw_eC 3 [.int (if y < x then y else x), .int 0]) := by rw [eM1]; exact zw_us
  refine zw_aload_n (v := .ref a) (pc' := 14) K dX5_init_13 rfl rfl rfl ?_
  refine zw_iload_n (x := x) (pc' := 15) K dX5_init_14 rfl rfl ?_
  refine zw_iload_n (x := y) (pc' := 16) K dX5_init_15 rfl rfl ?_
  refine zw_max (pc' := 19) K q107 q108 q33 q109 ⟨Nat.le_of_ble_eq_true rfl, Nat.le_of_ble_eq_true rfl, Nat.le_of_ble_eq_true rfl, Nat.le_of_ble_eq_true rfl⟩ dX5_init_16 rfl ?_
  refine zp_X5_22 (v := .int (if x < y then y else x)) (pc' := 22) K hcon f2 rfl rfl (by simp) dX5_init_19 rfl ?_
  refine zw_nmM (fun M3 eM3 => ?_)
  have f4 : M3 a = some (zw_eC 3 [.int (if y < x then y else x), .int (if x < y then y else x)]) := by rw [eM3]; exact zw_us
  exact zw_vret K hE dX5_init_22 ⟨Nat.le_of_ble_eq_true rfl, Nat.le_of_ble_eq_true rfl⟩ (by rw [eM3, eM1, zw_uu]; rfl)
set_option maxHeartbeats 2000000 in
theorem ct_X5_has {w : zw_W} {l : Launch} (hl : l.stackTraces = false) (M : zw_M) (a : Nat) (lo hi x : Int32) (hM : M a = some (zw_eC 3 [.int lo, .int hi])) : zw_C w l yX5_has cX5_has 2 (Option.some Jvm.ClassFile.FieldType.boolean) (zr 1 0 0) [.ref a, .int x] M (zw_pi fun r M1 => r = zb (x == lo || x == hi) ∧ M1 = M) zw_no := by
  refine zw_enter RX5 rfl (by decide) hl (by simp [Value.category]) (Nat.le_of_ble_eq_true rfl) (fun X hXl hXw K hE htab hcon => ?_)
  subst hXl; subst hXw
  show zw_Z X _ 0 0 0 [some (.ref a), some (.int x)] []
  refine zw_iload_n (x := x) (pc' := 1) K dX5_has_0 rfl rfl ?_
  refine zw_aload_n (v := .ref a) (pc' := 2) K dX5_has_1 rfl rfl rfl ?_
  refine zg_X5_13 (v := .int lo) (pc' := 5) K hM rfl dX5_has_2 rfl ?_
  refine zw_icmp_eq (tgt := 16) (pc' := 8) K dX5_has_5 (by decide) rfl (fun c5 => ?_) (fun c5 => ?_)
  · refine zw_iconst (v := 1) (pc' := 17) K dX5_has_16 (by decide) rfl ?_
    refine zw_goto (tgt := 21) K dX5_has_17 (by decide) ?_
    exact zw_zret K hE rfl dX5_has_21 ⟨Nat.le_of_ble_eq_true rfl, Nat.le_of_ble_eq_true rfl⟩ (⟨by simp [zb, c5], rfl⟩)
  · refine zw_iload_n (x := x) (pc' := 9) K dX5_has_8 rfl rfl ?_
    refine zw_aload_n (v := .ref a) (pc' := 10) K dX5_has_9 rfl rfl rfl ?_
    refine zg_X5_22 (v := .int hi) (pc' := 13) K hM rfl dX5_has_10 rfl ?_
    refine zw_icmp_ne (tgt := 20) (pc' := 16) K dX5_has_13 (by decide) rfl (fun c13 => ?_) (fun c13 => ?_)
    · refine zw_iconst (v := 0) (pc' := 21) K dX5_has_20 (by decide) rfl ?_
      exact zw_zret K hE rfl dX5_has_21 ⟨Nat.le_of_ble_eq_true rfl, Nat.le_of_ble_eq_true rfl⟩ (⟨by simp [zb, c5, c13], rfl⟩)
    · refine zw_iconst (v := 1) (pc' := 17) K dX5_has_16 (by decide) rfl ?_
      refine zw_goto (tgt := 21) K dX5_has_17 (by decide) ?_
      exact zw_zret K hE rfl dX5_has_21 ⟨Nat.le_of_ble_eq_true rfl, Nat.le_of_ble_eq_true rfl⟩ (⟨by simp [zb, c5, c13], rfl⟩)
set_option maxHeartbeats 2000000 in
theorem ct_X5_other {w : zw_W} {l : Launch} (hl : l.stackTraces = false) (M : zw_M) (a : Nat) (lo hi x : Int32) (hM : M a = some (zw_eC 3 [.int lo, .int hi])) : zw_C w l yX5_other cX5_other 2 (Option.some Jvm.ClassFile.FieldType.int) (zr 1 0 0) [.ref a, .int x] M (zw_pi fun r M1 => r = (if x = lo then hi else lo) ∧ M1 = M) zw_no := by
  refine zw_enter RX5 rfl (by decide) hl (by simp [Value.category]) (Nat.le_of_ble_eq_true rfl) (fun X hXl hXw K hE htab hcon => ?_)
  subst hXl; subst hXw
  show zw_Z X _ 0 0 0 [some (.ref a), some (.int x)] []
  refine zw_iload_n (x := x) (pc' := 1) K dX5_other_0 rfl rfl ?_
  refine zw_aload_n (v := .ref a) (pc' := 2) K dX5_other_1 rfl rfl rfl ?_
  refine zg_X5_13 (v := .int lo) (pc' := 5) K hM rfl dX5_other_2 rfl ?_
  refine zw_icmp_ne (tgt := 15) (pc' := 8) K dX5_other_5 (by decide) rfl (fun c5 => ?_) (fun c5 => ?_)
  · refine zw_aload_n (v := .ref a) (pc' := 16) K dX5_other_15 rfl rfl rfl ?_
    refine zg_X5_13 (v := .int lo) (pc' := 19) K hM rfl dX5_other_16 rfl ?_
    exact zw_iret K hE dX5_other_19 ⟨Nat.le_of_ble_eq_true rfl, Nat.le_of_ble_eq_true rfl⟩ (⟨by simp [c5], rfl⟩)
  · refine zw_aload_n (v := .ref a) (pc' := 9) K dX5_other_8 rfl rfl rfl ?_
    refine zg_X5_22 (v := .int hi) (pc' := 12) K hM rfl dX5_other_9 rfl ?_
    refine zw_goto (tgt := 19) K dX5_other_12 (by decide) ?_
    exact zw_iret K hE dX5_other_19 ⟨Nat.le_of_ble_eq_true rfl, Nat.le_of_ble_eq_true rfl⟩ (⟨by simp [c5], rfl⟩)
set_option maxHeartbeats 2000000 in
theorem ct_X3_stands {w : zw_W} {l : Launch} (hl : l.stackTraces = false) (M : zw_M) (t : Nat) {op wi pa pt : Int32} {s g : Nat → Int32} (h : zt_T w M t op wi pa pt s g) (j : Nat) (hj : j < 7) : zw_C w l yX3_stands cX3_stands 2 (Option.some Jvm.ClassFile.FieldType.boolean) (zr 1 0 0) [.ref t, .int (nI j)] M (zw_pi fun r M1 => r = zb (zs_st s g j) ∧ M1 = M) zw_no := by
  obtain ⟨bs, f, hT, hB, hb⟩ := h
  refine zw_enter RX3 rfl (by decide) hl (by simp [Value.category]) (Nat.le_of_ble_eq_true rfl) (fun X hXl hXw K hE htab hcon => ?_)
  subst hXl; subst hXw
  show zw_Z X _ 0 0 0 [some (.ref t), some (.int (nI j))] []
  rcases hb j hj with ⟨hf, hs⟩ | ⟨q, hf, hq, hs⟩
  · refine zw_aload_n (v := .ref t) (pc' := 1) K dX3_stands_0 rfl rfl rfl ?_
    refine zg_X3_11 (v := .ref bs) (pc' := 4) K hT rfl dX3_stands_1 rfl ?_
    refine zw_iload_n (x := nI j) (pc' := 5) K dX3_stands_4 rfl rfl ?_
    refine zn_aaldB (j := j) (v := none) (pc' := 6) K hB rfl (by omega) hf dX3_stands_5 rfl ?_
    refine zw_ifnull (r := none) (tgt := 25) (pc' := 9) K dX3_stands_6 (by decide) rfl (fun _ => ?_) (fun _ h => nomatch h)
    refine zw_iconst (v := 0) (pc' := 26) K dX3_stands_25 (by decide) rfl ?_
    exact zw_zret K hE rfl dX3_stands_26 ⟨Nat.le_of_ble_eq_true rfl, Nat.le_of_ble_eq_true rfl⟩ (⟨by rw [show zs_st s g j = false by simp [zs_st, hs]]; rfl, rfl⟩)
  · refine zw_aload_n (v := .ref t) (pc' := 1) K dX3_stands_0 rfl rfl rfl ?_
    refine zg_X3_11 (v := .ref bs) (pc' := 4) K hT rfl dX3_stands_1 rfl ?_
    refine zw_iload_n (x := nI j) (pc' := 5) K dX3_stands_4 rfl rfl ?_
    refine zn_aaldB (j := j) (v := (some q)) (pc' := 6) K hB rfl (by omega) hf dX3_stands_5 rfl ?_
    refine zw_ifnull (r := some q) (tgt := 25) (pc' := 9) K dX3_stands_6 (by decide) rfl (fun h => nomatch h) (fun _ _ => ?_)
    refine zw_aload_n (v := .ref t) (pc' := 10) K dX3_stands_9 rfl rfl rfl ?_
    refine zg_X3_11 (v := .ref bs) (pc' := 13) K hT rfl dX3_stands_10 rfl ?_
    refine zw_iload_n (x := nI j) (pc' := 14) K dX3_stands_13 rfl rfl ?_
    refine zn_aaldB (j := j) (v := (some q)) (pc' := 15) K hB rfl (by omega) hf dX3_stands_14 rfl ?_
    refine zg_X3_28 (v := .int (g j)) (pc' := 18) K hq rfl dX3_stands_15 rfl ?_
    refine zw_if_ne (tgt := 25) (pc' := 21) K dX3_stands_18 (by decide) rfl (fun c18 => ?_) (fun c18 => ?_)
    · refine zw_iconst (v := 0) (pc' := 26) K dX3_stands_25 (by decide) rfl ?_
      exact zw_zret K hE rfl dX3_stands_26 ⟨Nat.le_of_ble_eq_true rfl, Nat.le_of_ble_eq_true rfl⟩ (⟨by simp [zs_st, zb, hs, c18], rfl⟩)
    · refine zw_iconst (v := 1) (pc' := 22) K dX3_stands_21 (by decide) rfl ?_
      refine zw_goto (tgt := 26) K dX3_stands_22 (by decide) ?_
      exact zw_zret K hE rfl dX3_stands_26 ⟨Nat.le_of_ble_eq_true rfl, Nat.le_of_ble_eq_true rfl⟩ (⟨by simp [zs_st, zb, hs, c18], rfl⟩)
set_option maxHeartbeats 2000000 in
theorem ct_X3_hasWithdrawn {w : zw_W} {l : Launch} (hl : l.stackTraces = false) (M : zw_M) (t : Nat) {op wi pa pt : Int32} {s g : Nat → Int32} (h : zt_T w M t op wi pa pt s g) (j : Nat) (hj : j < 7) : zw_C w l yX3_hasWithdrawn cX3_hasWithdrawn 2 (Option.some Jvm.ClassFile.FieldType.boolean) (zr 1 0 0) [.ref t, .int (nI j)] M (zw_pi fun r M1 => r = zb (zs_wd s g j) ∧ M1 = M) zw_no := by
  obtain ⟨bs, f, hT, hB, hb⟩ := h
  refine zw_enter RX3 rfl (by decide) hl (by simp [Value.category]) (Nat.le_of_ble_eq_true rfl) (fun X hXl hXw K hE htab hcon => ?_)
  subst hXl; subst hXw
  show zw_Z X _ 0 0 0 [some (.ref t), some (.int (nI j))] []
  rcases hb j hj with ⟨hf, hs⟩ | ⟨q, hf, hq, hs⟩
  · refine zw_aload_n (v := .ref t) (pc' := 1) K dX3_hasWithdrawn_0 rfl rfl rfl ?_
    refine zg_X3_11 (v := .ref bs) (pc' := 4) K hT rfl dX3_hasWithdrawn_1 rfl ?_
    refine zw_iload_n (x := nI j) (pc' := 5) K dX3_hasWithdrawn_4 rfl rfl ?_
    refine zn_aaldB (j := j) (v := none) (pc' := 6) K hB rfl (by omega) hf dX3_hasWithdrawn_5 rfl ?_
    refine zw_ifnull (r := none) (tgt := 25) (pc' := 9) K dX3_hasWithdrawn_6 (by decide) rfl (fun _ => ?_) (fun _ h => nomatch h)
    refine zw_iconst (v := 0) (pc' := 26) K dX3_hasWithdrawn_25 (by decide) rfl ?_
    exact zw_zret K hE rfl dX3_hasWithdrawn_26 ⟨Nat.le_of_ble_eq_true rfl, Nat.le_of_ble_eq_true rfl⟩ (⟨by rw [show zs_wd s g j = false by simp [zs_wd, hs]]; rfl, rfl⟩)
  · refine zw_aload_n (v := .ref t) (pc' := 1) K dX3_hasWithdrawn_0 rfl rfl rfl ?_
    refine zg_X3_11 (v := .ref bs) (pc' := 4) K hT rfl dX3_hasWithdrawn_1 rfl ?_
    refine zw_iload_n (x := nI j) (pc' := 5) K dX3_hasWithdrawn_4 rfl rfl ?_
    refine zn_aaldB (j := j) (v := (some q)) (pc' := 6) K hB rfl (by omega) hf dX3_hasWithdrawn_5 rfl ?_
    refine zw_ifnull (r := some q) (tgt := 25) (pc' := 9) K dX3_hasWithdrawn_6 (by decide) rfl (fun h => nomatch h) (fun _ _ => ?_)
    refine zw_aload_n (v := .ref t) (pc' := 10) K dX3_hasWithdrawn_9 rfl rfl rfl ?_
    refine zg_X3_11 (v := .ref bs) (pc' := 13) K hT rfl dX3_hasWithdrawn_10 rfl ?_
    refine zw_iload_n (x := nI j) (pc' := 14) K dX3_hasWithdrawn_13 rfl rfl ?_
    refine zn_aaldB (j := j) (v := (some q)) (pc' := 15) K hB rfl (by omega) hf dX3_hasWithdrawn_14 rfl ?_
    refine zg_X3_28 (v := .int (g j)) (pc' := 18) K hq rfl dX3_hasWithdrawn_15 rfl ?_
    refine zw_if_eq (tgt := 25) (pc' := 21) K dX3_hasWithdrawn_18 (by decide) rfl (fun c18 => ?_) (fun c18 => ?_)
    · refine zw_iconst (v := 0) (pc' := 26) K dX3_hasWithdrawn_25 (by decide) rfl ?_
      exact zw_zret K hE rfl dX3_hasWithdrawn_26 ⟨Nat.le_of_ble_eq_true rfl, Nat.le_of_ble_eq_true rfl⟩ (⟨by simp [zs_wd, zb, hs, c18], rfl⟩)
    · refine zw_iconst (v := 1) (pc' := 22) K dX3_hasWithdrawn_21 (by decide) rfl ?_
      refine zw_goto (tgt := 26) K dX3_hasWithdrawn_22 (by decide) ?_
      exact zw_zret K hE rfl dX3_hasWithdrawn_26 ⟨Nat.le_of_ble_eq_true rfl, Nat.le_of_ble_eq_true rfl⟩ (⟨by simp [zs_wd, zb, hs, c18], rfl⟩)
set_option maxHeartbeats 2000000 in
theorem ct_X3_sum {w : zw_W} {l : Launch} (hl : l.stackTraces = false) (M : zw_M) (t : Nat) {op pa pt : Int32} {s g : Nat → Int32} (j : Nat) (hj : j < 7) (h : zt_T w M t op (nI j) pa pt s g) (h0 : 0 < s j) : zw_C w l yX3_sum cX3_sum 1 (Option.some Jvm.ClassFile.FieldType.int) (zr 1 0 0) [.ref t] M (zw_pi fun r M1 => r = s j ∧ M1 = M) zw_no := by
  obtain ⟨bs, f, hT, hB, hb⟩ := h
  refine zw_enter RX3 rfl (by decide) hl (by simp [Value.category]) (Nat.le_of_ble_eq_true rfl) (fun X hXl hXw K hE htab hcon => ?_)
  subst hXl; subst hXw
  show zw_Z X _ 0 0 0 [some (.ref t)] []
  rcases hb j hj with ⟨hf, hs⟩ | ⟨q, hf, hq, hs⟩
  · rw [hs] at h0; exact absurd h0 (by decide)
  · refine zw_aload_n (v := .ref t) (pc' := 1) K dX3_sum_0 rfl rfl rfl ?_
    refine zg_X3_11 (v := .ref bs) (pc' := 4) K hT rfl dX3_sum_1 rfl ?_
    refine zw_aload_n (v := .ref t) (pc' := 5) K dX3_sum_4 rfl rfl rfl ?_
    refine zg_X3_21 (v := .int (nI j)) (pc' := 8) K hT rfl dX3_sum_5 rfl ?_
    refine zn_aaldB (j := j) (v := (some q)) (pc' := 9) K hB rfl (by omega) hf dX3_sum_8 rfl ?_
    refine zg_X3_31 (v := .int (s j)) (pc' := 12) K hq rfl dX3_sum_9 rfl ?_
    exact zw_iret K hE dX3_sum_12 ⟨Nat.le_of_ble_eq_true rfl, Nat.le_of_ble_eq_true rfl⟩ (⟨rfl, rfl⟩)
set_option maxHeartbeats 2000000 in
theorem ct_X3_turnover {w : zw_W} {l : Launch} (hl : l.stackTraces = false) (M : zw_M) (t : Nat) {op wi pa pt : Int32} {s g : Nat → Int32} (h : zt_T w M t op wi pa pt s g) (x : Int32) (hx : ¬ x = -1) (hw : wi = -1 ∨ ∃ j, j < 7 ∧ wi = nI j ∧ 0 < s j) : zw_C w l yX3_turnover cX3_turnover 3 (Option.some Jvm.ClassFile.FieldType.int) (zr 2 0 0) [.ref t, .int x] M (zw_pi fun r M1 => r = (if wi = x then s wi.toNatClampNeg - pt else 0) + (if pa = x then pt else 0) ∧ M1 = M) zw_no := by
  have h9 := h
  obtain ⟨bs, f, hT, hB, hb⟩ := h9
  refine zw_enter RX3 rfl (by decide) hl (by simp [Value.category]) (Nat.le_of_ble_eq_true rfl) (fun X hXl hXw K hE htab hcon => ?_)
  subst hXl; subst hXw
  show zw_Z X _ 0 0 0 [some (.ref t), some (.int x), none] []
  refine zw_aload_n (v := .ref t) (pc' := 1) K dX3_turnover_0 rfl rfl rfl ?_
  refine zg_X3_21 (v := .int wi) (pc' := 4) K hT rfl dX3_turnover_1 rfl ?_
  refine zw_iload_n (x := x) (pc' := 5) K dX3_turnover_4 rfl rfl ?_
  refine zw_icmp_ne (tgt := 20) (pc' := 8) K dX3_turnover_5 (by decide) rfl (fun c5 => ?_) (fun c5 => ?_)
  · refine zw_iconst (v := 0) (pc' := 21) K dX3_turnover_20 (by decide) rfl ?_
    refine zw_istore_n (lv' := [some (.ref t), some (.int x), some (.int 0)]) (pc' := 22) K dX3_turnover_21 (by decide) rfl rfl ?_
    refine zw_iload_n (x := 0) (pc' := 23) K dX3_turnover_22 rfl rfl ?_
    refine zw_aload_n (v := .ref t) (pc' := 24) K dX3_turnover_23 rfl rfl rfl ?_
    refine zg_X3_25 (v := .int pa) (pc' := 27) K hT rfl dX3_turnover_24 rfl ?_
    refine zw_iload_n (x := x) (pc' := 28) K dX3_turnover_27 rfl rfl ?_
    refine zw_icmp_ne (tgt := 38) (pc' := 31) K dX3_turnover_28 (by decide) rfl (fun c28 => ?_) (fun c28 => ?_)
    · refine zw_iconst (v := 0) (pc' := 39) K dX3_turnover_38 (by decide) rfl ?_
      refine zw_iadd (pc' := 40) K dX3_turnover_39 rfl ?_
      exact zw_iret K hE dX3_turnover_40 ⟨Nat.le_of_ble_eq_true rfl, Nat.le_of_ble_eq_true rfl⟩ (⟨by simp [c5, c28], rfl⟩)
    · refine zw_aload_n (v := .ref t) (pc' := 32) K dX3_turnover_31 rfl rfl rfl ?_
      refine zg_X3_41 (v := .int pt) (pc' := 35) K hT rfl dX3_turnover_32 rfl ?_
      refine zw_goto (tgt := 39) K dX3_turnover_35 (by decide) ?_
      refine zw_iadd (pc' := 40) K dX3_turnover_39 rfl ?_
      exact zw_iret K hE dX3_turnover_40 ⟨Nat.le_of_ble_eq_true rfl, Nat.le_of_ble_eq_true rfl⟩ (⟨by simp [c5, c28], rfl⟩)
  · refine zw_aload_n (v := .ref t) (pc' := 9) K dX3_turnover_8 rfl rfl rfl ?_
    obtain ⟨j, hj, rfl, h0⟩ : ∃ j, j < 7 ∧ wi = nI j ∧ 0 < s j := by
      rcases hw with q | q
      · rw [q] at c5; exact absurd c5.symm hx
      · exact q
    refine zc_X3_38 (rest := []) (c' := 0) (n' := 0) (pc' := 12) K (ct_X3_sum hl M t j hj h h0) hT rfl rfl dX3_turnover_9 rfl (Nat.le_of_ble_eq_true rfl) ⟨Nat.le_of_ble_eq_true rfl, Nat.le_of_ble_eq_true rfl⟩ ⟨Nat.le_of_ble_eq_true rfl, Nat.le_of_ble_eq_true rfl, Nat.le_of_ble_eq_true rfl, Nat.le_of_ble_eq_true rfl⟩ (zw_kp ?_) zw_kn
    refine zw_aload_n (v := .ref t) (pc' := 13) K dX3_turnover_12 rfl rfl rfl ?_
    refine zg_X3_41 (v := .int pt) (pc' := 16) K hT rfl dX3_turnover_13 rfl ?_
    refine zw_isub (pc' := 17) K dX3_turnover_16 rfl ?_
    refine zw_goto (tgt := 21) K dX3_turnover_17 (by decide) ?_
    refine zw_istore_n (lv' := [some (.ref t), some (.int x), some (.int ((s j) - pt))]) (pc' := 22) K dX3_turnover_21 (by decide) rfl rfl ?_
    refine zw_iload_n (x := (s j) - pt) (pc' := 23) K dX3_turnover_22 rfl rfl ?_
    refine zw_aload_n (v := .ref t) (pc' := 24) K dX3_turnover_23 rfl rfl rfl ?_
    refine zg_X3_25 (v := .int pa) (pc' := 27) K hT rfl dX3_turnover_24 rfl ?_
    refine zw_iload_n (x := x) (pc' := 28) K dX3_turnover_27 rfl rfl ?_
    refine zw_icmp_ne (tgt := 38) (pc' := 31) K dX3_turnover_28 (by decide) rfl (fun c28 => ?_) (fun c28 => ?_)
    · refine zw_iconst (v := 0) (pc' := 39) K dX3_turnover_38 (by decide) rfl ?_
      refine zw_iadd (pc' := 40) K dX3_turnover_39 rfl ?_
      exact zw_iret K hE dX3_turnover_40 ⟨Nat.le_of_ble_eq_true rfl, Nat.le_of_ble_eq_true rfl⟩ (⟨by rw [show (nI j).toNatClampNeg = j from nI_clamp (by omega)]; simp [c5, c28], rfl⟩)
    · refine zw_aload_n (v := .ref t) (pc' := 32) K dX3_turnover_31 rfl rfl rfl ?_
      refine zg_X3_41 (v := .int pt) (pc' := 35) K hT rfl dX3_turnover_32 rfl ?_
      refine zw_goto (tgt := 39) K dX3_turnover_35 (by decide) ?_
      refine zw_iadd (pc' := 40) K dX3_turnover_39 rfl ?_
      exact zw_iret K hE dX3_turnover_40 ⟨Nat.le_of_ble_eq_true rfl, Nat.le_of_ble_eq_true rfl⟩ (⟨by rw [show (nI j).toNatClampNeg = j from nI_clamp (by omega)]; simp [c5, c28], rfl⟩)
set_option maxHeartbeats 2000000 in
theorem ct_X5_stands {w : zw_W} {l : Launch} (hl : l.stackTraces = false) (M : zw_M) (t : Nat) {op wi pa pt : Int32} {s g : Nat → Int32} (h : zt_T w M t op wi pa pt s g) (a : Nat) (j k : Nat) (hj : j < 7) (hk : k < 7) (hM : M a = some (zw_eC 3 [.int (nI j), .int (nI k)])) : zw_C w l yX5_stands cX5_stands 2 (Option.some Jvm.ClassFile.FieldType.boolean) (zr 2 0 0) [.ref a, .ref t] M (zw_pi fun r M1 => r = zb (zs_st s g j && zs_st s g k) ∧ M1 = M) zw_no := by
  have h9 := h
  obtain ⟨bs, f, hT, hB, hb⟩ := h9
  refine zw_enter RX5 rfl (by decide) hl (by simp [Value.category]) (Nat.le_of_ble_eq_true rfl) (fun X hXl hXw K hE htab hcon => ?_)
  subst hXl; subst hXw
  show zw_Z X _ 0 0 0 [some (.ref a), some (.ref t)] []
  refine zw_aload_n (v := .ref t) (pc' := 1) K dX5_stands_0 rfl rfl rfl ?_
  refine zw_aload_n (v := .ref a) (pc' := 2) K dX5_stands_1 rfl rfl rfl ?_
  refine zg_X5_13 (v := .int (nI j)) (pc' := 5) K hM rfl dX5_stands_2 rfl ?_
  refine zc_X5_25 (rest := []) (c' := 0) (n' := 0) (pc' := 8) K (ct_X3_stands hl M t h j hj) hT rfl rfl dX5_stands_5 rfl (Nat.le_of_ble_eq_true rfl) ⟨Nat.le_of_ble_eq_true rfl, Nat.le_of_ble_eq_true rfl⟩ ⟨Nat.le_of_ble_eq_true rfl, Nat.le_of_ble_eq_true rfl, Nat.le_of_ble_eq_true rfl, Nat.le_of_ble_eq_true rfl⟩ (zw_kp ?_) zw_kn
  refine zw_if_eq (tgt := 26) (pc' := 11) K dX5_stands_8 (by decide) rfl (fun c8 => ?_) (fun c8 => ?_)
  · have c8 := zb_0.mp c8
    refine zw_iconst (v := 0) (pc' := 27) K dX5_stands_26 (by decide) rfl ?_
    exact zw_zret K hE rfl dX5_stands_27 ⟨Nat.le_of_ble_eq_true rfl, Nat.le_of_ble_eq_true rfl⟩ (⟨by simp [zb, c8], rfl⟩)
  · have c8 := zb_nz.mp c8
    refine zw_aload_n (v := .ref t) (pc' := 12) K dX5_stands_11 rfl rfl rfl ?_
    refine zw_aload_n (v := .ref a) (pc' := 13) K dX5_stands_12 rfl rfl rfl ?_
    refine zg_X5_22 (v := .int (nI k)) (pc' := 16) K hM rfl dX5_stands_13 rfl ?_
    refine zc_X5_25 (rest := []) (c' := 0) (n' := 0) (pc' := 19) K (ct_X3_stands hl M t h k hk) hT rfl rfl dX5_stands_16 rfl (Nat.le_of_ble_eq_true rfl) ⟨Nat.le_of_ble_eq_true rfl, Nat.le_of_ble_eq_true rfl⟩ ⟨Nat.le_of_ble_eq_true rfl, Nat.le_of_ble_eq_true rfl, Nat.le_of_ble_eq_true rfl, Nat.le_of_ble_eq_true rfl⟩ (zw_kp ?_) zw_kn
    refine zw_if_eq (tgt := 26) (pc' := 22) K dX5_stands_19 (by decide) rfl (fun c19 => ?_) (fun c19 => ?_)
    · have c19 := zb_0.mp c19
      refine zw_iconst (v := 0) (pc' := 27) K dX5_stands_26 (by decide) rfl ?_
      exact zw_zret K hE rfl dX5_stands_27 ⟨Nat.le_of_ble_eq_true rfl, Nat.le_of_ble_eq_true rfl⟩ (⟨by simp [zb, c8, c19], rfl⟩)
    · have c19 := zb_nz.mp c19
      refine zw_iconst (v := 1) (pc' := 23) K dX5_stands_22 (by decide) rfl ?_
      refine zw_goto (tgt := 27) K dX5_stands_23 (by decide) ?_
      exact zw_zret K hE rfl dX5_stands_27 ⟨Nat.le_of_ble_eq_true rfl, Nat.le_of_ble_eq_true rfl⟩ (⟨by simp [zb, c8, c19], rfl⟩)
set_option maxHeartbeats 2000000 in
theorem ct_X3_init {w : zw_W} {l : Launch} (hl : l.stackTraces = false) (M : zw_M) (t : Nat) (hM : M t = some (zw_eC 1 [.null, .int 0, .int 0, .int 0, .int 0])) : zw_C w l yX3_init cX3_init 1 (Option.none : Option Jvm.ClassFile.FieldType) (zr 2 1 7) [.ref t] M (zw_pv fun M1 => ∃ q : Nat, M q = none ∧ M1 = zw_u (zw_u M q (zw_eB w 7 (fun _ => none))) t (zw_eC 1 [.ref q, .int 1, .int (-1), .int (-1), .int 0])) zw_no := by
  refine zw_enter RX3 rfl (by decide) hl (by simp [Value.category]) (Nat.le_of_ble_eq_true rfl) (fun X hXl hXw K hE htab hcon => ?_)
  subst hXl; subst hXw
  show zw_Z X _ 0 0 0 [some (.ref t)] []
  refine zw_aload_n (v := .ref t) (pc' := 1) K dX3_init_0 rfl rfl rfl ?_
  refine zw_objInit (pc' := 4) K q271 q52 q53 dX3_init_1 rfl ⟨Nat.le_of_ble_eq_true rfl, Nat.le_of_ble_eq_true rfl⟩ ?_
  refine zw_aload_n (v := .ref t) (pc' := 5) K dX3_init_4 rfl rfl rfl ?_
  refine zw_bipush (v := 7) (pc' := 7) K dX3_init_5 (by decide) rfl ?_
  refine zw_newq (t0 := 4) (N' := 7) (c' := 1) (n' := 7) (pc' := 10) K q272 (fun h => h.2.2.2.2.2.2.2.1.1) rfl (by decide) (by decide) (by decide) ⟨Nat.le_of_ble_eq_true rfl, Nat.le_of_ble_eq_true rfl, Nat.le_of_ble_eq_true rfl, Nat.le_of_ble_eq_true rfl⟩ dX3_init_7 rfl (fun q hq => ?_)
  refine zw_nmM (fun M1 eM1 => ?_)
  have f2 : M1 t = some (zw_eC 1 [.null, .int 0, .int 0, .int 0, .int 0]) := by rw [eM1]; exact zw_un' (zw_nn hM hq) hM
  have f3 : M1 q = some (zw_eB (zw_Xw X) 7 (fun _ => none)) := by rw [eM1]; exact zw_us
  refine zp_X3_11 (v := .ref q) (pc' := 13) K hcon f2 rfl rfl (by simp) dX3_init_10 rfl ?_
  refine zw_nmM (fun M4 eM4 => ?_)
  have f5 : M4 t = some (zw_eC 1 [.ref q, .int 0, .int 0, .int 0, .int 0]) := by rw [eM4]; exact zw_us
  have f6 : M4 q = some (zw_eB (zw_Xw X) 7 (fun _ => none)) := by rw [eM4]; exact zw_un' (Ne.symm (zw_nn hM hq)) f3
  refine zw_aload_n (v := .ref t) (pc' := 14) K dX3_init_13 rfl rfl rfl ?_
  refine zw_iconst (v := 1) (pc' := 15) K dX3_init_14 (by decide) rfl ?_
  refine zp_X3_17 (v := .int 1) (pc' := 18) K f5 rfl rfl (by simp) dX3_init_15 rfl ?_
  refine zw_nmM (fun M7 eM7 => ?_)
  have f8 : M7 t = some (zw_eC 1 [.ref q, .int 1, .int 0, .int 0, .int 0]) := by rw [eM7]; exact zw_us
  have f9 : M7 q = some (zw_eB (zw_Xw X) 7 (fun _ => none)) := by rw [eM7]; exact zw_un' (Ne.symm (zw_nn hM hq)) f6
  refine zw_aload_n (v := .ref t) (pc' := 19) K dX3_init_18 rfl rfl rfl ?_
  refine zw_iconst (v := (-1)) (pc' := 20) K dX3_init_19 (by decide) rfl ?_
  refine zp_X3_21 (v := .int (-1)) (pc' := 23) K f8 rfl rfl (by simp) dX3_init_20 rfl ?_
  refine zw_nmM (fun M10 eM10 => ?_)
  have f11 : M10 t = some (zw_eC 1 [.ref q, .int 1, .int (-1), .int 0, .int 0]) := by rw [eM10]; exact zw_us
  have f12 : M10 q = some (zw_eB (zw_Xw X) 7 (fun _ => none)) := by rw [eM10]; exact zw_un' (Ne.symm (zw_nn hM hq)) f9
  refine zw_aload_n (v := .ref t) (pc' := 24) K dX3_init_23 rfl rfl rfl ?_
  refine zw_iconst (v := (-1)) (pc' := 25) K dX3_init_24 (by decide) rfl ?_
  refine zp_X3_25 (v := .int (-1)) (pc' := 28) K f11 rfl rfl (by simp) dX3_init_25 rfl ?_
  refine zw_nmM (fun M13 eM13 => ?_)
  have f14 : M13 t = some (zw_eC 1 [.ref q, .int 1, .int (-1), .int (-1), .int 0]) := by rw [eM13]; exact zw_us
  have f15 : M13 q = some (zw_eB (zw_Xw X) 7 (fun _ => none)) := by rw [eM13]; exact zw_un' (Ne.symm (zw_nn hM hq)) f12
  exact zw_vret K hE dX3_init_28 ⟨Nat.le_of_ble_eq_true rfl, Nat.le_of_ble_eq_true rfl⟩ (⟨q, hq, by rw [eM13, eM10, eM7, eM4, eM1, zw_uu, zw_uu, zw_uu]; rfl⟩)
set_option maxHeartbeats 2000000 in
theorem ct_X3_least {w : zw_W} {l : Launch} (hl : l.stackTraces = false) (M : zw_M) (t : Nat) {op wi pa pt : Int32} {s g : Nat → Int32} (h : zt_T w M t op wi pa pt s g) : zw_C w l yX3_least cX3_least 4 (Option.some Jvm.ClassFile.FieldType.int) (zr 2 0 0) [.ref t] M (zw_pi fun r M1 => r = zs_least s g ∧ M1 = M) zw_no := by
  have h9 := h
  obtain ⟨bs, f, hT, hB, hb⟩ := h9
  refine zw_enter RX3 rfl (by decide) hl (by simp [Value.category]) (Nat.le_of_ble_eq_true rfl) (fun X hXl hXw K hE htab hcon => ?_)
  subst hXl; subst hXw
  show zw_Z X _ 0 0 0 [some (.ref t), none, none, none] []
  refine zw_iconst (v := (-1)) (pc' := 1) K dX3_least_0 (by decide) rfl ?_
  refine zw_istore_n (lv' := [some (.ref t), some (.int (-1)), none, none]) (pc' := 2) K dX3_least_1 (by decide) rfl rfl ?_
  refine zw_iconst (v := 0) (pc' := 3) K dX3_least_2 (by decide) rfl ?_
  refine zw_istore_n (lv' := [some (.ref t), some (.int (-1)), some (.int 0), none]) (pc' := 4) K dX3_least_3 (by decide) rfl rfl ?_
  have L4 : ∀ i : Nat, i ≤ 7 → ∀ (xi : Int32) (acc : Int32), xi = nI i → (acc = zf (zs_leastF s g) i (-1)) → (acc = -1 ∨ ∃ ja, ja < i ∧ acc = nI ja ∧ 0 < s ja) → zw_Z X M 0 0 4 [some (.ref t), some (.int acc), some (.int xi), none] [] := by
    refine zl_up (fun i hi4 ih4 => ?_)
    intro xi acc hxi hacc hinv
    refine zw_iload_n (x := xi) (pc' := 5) K dX3_least_4 rfl rfl ?_
    refine zw_bipush (v := 7) (pc' := 7) K dX3_least_5 (by decide) rfl ?_
    refine zw_icmp_ge (tgt := 66) (pc' := 10) K dX3_least_7 (by decide) rfl (fun c7 => ?_) (fun c7 => ?_)
    · have hend4 : i = 7 := zi_ge hxi (by decide) hi4 (by decide) c7
      refine zw_iload_n (x := acc) (pc' := 67) K dX3_least_66 rfl rfl ?_
      exact zw_iret K hE dX3_least_67 ⟨Nat.le_of_ble_eq_true rfl, Nat.le_of_ble_eq_true rfl⟩ (⟨by rw [hacc, hend4]; rfl, rfl⟩)
    · have hlt4 : i < 7 := zi_lt hxi (by decide) hi4 (by decide) c7
      refine zw_aload_n (v := .ref t) (pc' := 11) K dX3_least_10 rfl rfl rfl ?_
      refine zw_iload_n (x := xi) (pc' := 12) K dX3_least_11 rfl rfl ?_
      subst hxi
      refine zc_X3_34 (rest := []) (c' := 0) (n' := 0) (pc' := 15) K (ct_X3_stands hl M t h i (by omega)) hT rfl rfl dX3_least_12 rfl (Nat.le_of_ble_eq_true rfl) ⟨Nat.le_of_ble_eq_true rfl, Nat.le_of_ble_eq_true rfl⟩ ⟨Nat.le_of_ble_eq_true rfl, Nat.le_of_ble_eq_true rfl, Nat.le_of_ble_eq_true rfl, Nat.le_of_ble_eq_true rfl⟩ (zw_kp ?_) zw_kn
      refine zw_if_eq (tgt := 48) (pc' := 18) K dX3_least_15 (by decide) rfl (fun c15 => ?_) (fun c15 => ?_)
      · have c15 := zb_0.mp c15
        refine zw_iconst (v := 0) (pc' := 49) K dX3_least_48 (by decide) rfl ?_
        refine zw_istore_n (lv' := [some (.ref t), some (.int acc), some (.int (nI i)), some (.int 0)]) (pc' := 50) K dX3_least_49 (by decide) rfl rfl ?_
        refine zw_iload_n (x := 0) (pc' := 51) K dX3_least_50 rfl rfl ?_
        refine zw_if_eq (tgt := 58) (pc' := 54) K dX3_least_51 (by decide) rfl (fun c51 => ?_) (fun c51 => absurd c51 (by decide))
        refine zw_iload_n (x := acc) (pc' := 59) K dX3_least_58 rfl rfl ?_
        refine zw_istore_n (lv' := [some (.ref t), some (.int acc), some (.int (nI i)), some (.int 0)]) (pc' := 60) K dX3_least_59 (by decide) rfl rfl ?_
        refine zw_iinc (x := (nI i)) (lv' := [some (.ref t), some (.int acc), some (.int ((nI i) + 1)), some (.int 0)]) (pc' := 63) K dX3_least_60 rfl (by decide) rfl rfl ?_
        refine zw_goto (tgt := 4) K dX3_least_63 (by decide) ?_
        refine zw_weakL (lv' := [some (.ref t), some (.int acc), some (.int ((nI i) + 1)), none]) (by simp [zw_le]) ?_
        exact ih4 hlt4 ((nI i) + 1) acc (nI_1 i) (by rw [zf_s, ← hacc]; simp [zs_leastF, c15]) (by rcases hinv with z | ⟨k, z1, z2⟩; exact Or.inl z; exact Or.inr ⟨k, by omega, z2⟩)
      · have c15 := zb_nz.mp c15
        refine zw_iload_n (x := acc) (pc' := 19) K dX3_least_18 rfl rfl ?_
        refine zw_iconst (v := (-1)) (pc' := 20) K dX3_least_19 (by decide) rfl ?_
        refine zw_icmp_eq (tgt := 44) (pc' := 23) K dX3_least_20 (by decide) rfl (fun c20 => ?_) (fun c20 => ?_)
        · refine zw_iconst (v := 1) (pc' := 45) K dX3_least_44 (by decide) rfl ?_
          refine zw_goto (tgt := 49) K dX3_least_45 (by decide) ?_
          refine zw_istore_n (lv' := [some (.ref t), some (.int acc), some (.int (nI i)), some (.int 1)]) (pc' := 50) K dX3_least_49 (by decide) rfl rfl ?_
          refine zw_iload_n (x := 1) (pc' := 51) K dX3_least_50 rfl rfl ?_
          refine zw_if_eq (tgt := 58) (pc' := 54) K dX3_least_51 (by decide) rfl (fun c51 => absurd c51 (by decide)) (fun c51 => ?_)
          refine zw_iload_n (x := (nI i)) (pc' := 55) K dX3_least_54 rfl rfl ?_
          refine zw_goto (tgt := 59) K dX3_least_55 (by decide) ?_
          refine zw_istore_n (lv' := [some (.ref t), some (.int (nI i)), some (.int (nI i)), some (.int 1)]) (pc' := 60) K dX3_least_59 (by decide) rfl rfl ?_
          refine zw_iinc (x := (nI i)) (lv' := [some (.ref t), some (.int (nI i)), some (.int ((nI i) + 1)), some (.int 1)]) (pc' := 63) K dX3_least_60 rfl (by decide) rfl rfl ?_
          refine zw_goto (tgt := 4) K dX3_least_63 (by decide) ?_
          refine zw_weakL (lv' := [some (.ref t), some (.int (nI i)), some (.int ((nI i) + 1)), none]) (by simp [zw_le]) ?_
          exact ih4 hlt4 ((nI i) + 1) (nI i) (nI_1 i) (by have hst : zs_st s g i = true := c15; rw [zf_s, ← hacc]; simp [zs_leastF, hst, c20]) (by have hst : zs_st s g i = true := c15; exact Or.inr ⟨i, by omega, rfl, by simp [zs_st] at hst; exact hst.1⟩)
        · obtain ⟨ja, hja, hea, hsa⟩ : ∃ ja, ja < i ∧ acc = nI ja ∧ 0 < s ja := by
            rcases hinv with z | z
            · exact absurd z c20
            · exact z
          have hsi : 0 < s i := (by simp [zs_st] at c15; exact c15.1)
          obtain ⟨qi, hfi, hqi⟩ : ∃ q, f i = some q ∧ M q = some (zw_eC 2 [.int (s i), .int (g i)]) := by
            rcases hb i (by omega) with ⟨_, z⟩ | ⟨q, z1, z2, _⟩
            · rw [z] at hsi; exact absurd hsi (by decide)
            · exact ⟨q, z1, z2⟩
          obtain ⟨qa, hfa, hqa⟩ : ∃ q, f ja = some q ∧ M q = some (zw_eC 2 [.int (s ja), .int (g ja)]) := by
            rcases hb ja (by omega) with ⟨_, z⟩ | ⟨q, z1, z2, _⟩
            · rw [z] at hsa; exact absurd hsa (by decide)
            · exact ⟨q, z1, z2⟩
          refine zw_aload_n (v := .ref t) (pc' := 24) K dX3_least_23 rfl rfl rfl ?_
          refine zg_X3_11 (v := .ref bs) (pc' := 27) K hT rfl dX3_least_24 rfl ?_
          refine zw_iload_n (x := (nI i)) (pc' := 28) K dX3_least_27 rfl rfl ?_
          refine zn_aaldB (j := i) (v := (some qi)) (pc' := 29) K hB rfl (by omega) hfi dX3_least_28 rfl ?_
          refine zg_X3_31 (v := .int (s i)) (pc' := 32) K hqi rfl dX3_least_29 rfl ?_
          refine zw_aload_n (v := .ref t) (pc' := 33) K dX3_least_32 rfl rfl rfl ?_
          refine zg_X3_11 (v := .ref bs) (pc' := 36) K hT rfl dX3_least_33 rfl ?_
          refine zw_iload_n (x := acc) (pc' := 37) K dX3_least_36 rfl rfl ?_
          refine zn_aaldB (j := ja) (v := (some qa)) (pc' := 38) K hB hea (by omega) hfa dX3_least_37 rfl ?_
          refine zg_X3_31 (v := .int (s ja)) (pc' := 41) K hqa rfl dX3_least_38 rfl ?_
          refine zw_icmp_ge (tgt := 48) (pc' := 44) K dX3_least_41 (by decide) rfl (fun c41 => ?_) (fun c41 => ?_)
          · refine zw_iconst (v := 0) (pc' := 49) K dX3_least_48 (by decide) rfl ?_
            refine zw_istore_n (lv' := [some (.ref t), some (.int acc), some (.int (nI i)), some (.int 0)]) (pc' := 50) K dX3_least_49 (by decide) rfl rfl ?_
            refine zw_iload_n (x := 0) (pc' := 51) K dX3_least_50 rfl rfl ?_
            refine zw_if_eq (tgt := 58) (pc' := 54) K dX3_least_51 (by decide) rfl (fun c51 => ?_) (fun c51 => absurd c51 (by decide))
            refine zw_iload_n (x := acc) (pc' := 59) K dX3_least_58 rfl rfl ?_
            refine zw_istore_n (lv' := [some (.ref t), some (.int acc), some (.int (nI i)), some (.int 0)]) (pc' := 60) K dX3_least_59 (by decide) rfl rfl ?_
            refine zw_iinc (x := (nI i)) (lv' := [some (.ref t), some (.int acc), some (.int ((nI i) + 1)), some (.int 0)]) (pc' := 63) K dX3_least_60 rfl (by decide) rfl rfl ?_
            refine zw_goto (tgt := 4) K dX3_least_63 (by decide) ?_
            refine zw_weakL (lv' := [some (.ref t), some (.int acc), some (.int ((nI i) + 1)), none]) (by simp [zw_le]) ?_
            exact ih4 hlt4 ((nI i) + 1) acc (nI_1 i) (by have hst : zs_st s g i = true := c15; have ej : acc.toNatClampNeg = ja := (by rw [hea]; exact nI_clamp (by omega)); rw [zf_s, ← hacc]; unfold zs_leastF; rw [ej, if_neg (by simp [hst, c20, Int32.not_lt.mpr c41])]) (by rcases hinv with z | ⟨k, z1, z2⟩; exact Or.inl z; exact Or.inr ⟨k, by omega, z2⟩)
          · refine zw_iconst (v := 1) (pc' := 45) K dX3_least_44 (by decide) rfl ?_
            refine zw_goto (tgt := 49) K dX3_least_45 (by decide) ?_
            refine zw_istore_n (lv' := [some (.ref t), some (.int acc), some (.int (nI i)), some (.int 1)]) (pc' := 50) K dX3_least_49 (by decide) rfl rfl ?_
            refine zw_iload_n (x := 1) (pc' := 51) K dX3_least_50 rfl rfl ?_
            refine zw_if_eq (tgt := 58) (pc' := 54) K dX3_least_51 (by decide) rfl (fun c51 => absurd c51 (by decide)) (fun c51 => ?_)
            refine zw_iload_n (x := (nI i)) (pc' := 55) K dX3_least_54 rfl rfl ?_
            refine zw_goto (tgt := 59) K dX3_least_55 (by decide) ?_
            refine zw_istore_n (lv' := [some (.ref t), some (.int (nI i)), some (.int (nI i)), some (.int 1)]) (pc' := 60) K dX3_least_59 (by decide) rfl rfl ?_
            refine zw_iinc (x := (nI i)) (lv' := [some (.ref t), some (.int (nI i)), some (.int ((nI i) + 1)), some (.int 1)]) (pc' := 63) K dX3_least_60 rfl (by decide) rfl rfl ?_
            refine zw_goto (tgt := 4) K dX3_least_63 (by decide) ?_
            refine zw_weakL (lv' := [some (.ref t), some (.int (nI i)), some (.int ((nI i) + 1)), none]) (by simp [zw_le]) ?_
            exact ih4 hlt4 ((nI i) + 1) (nI i) (nI_1 i) (by have hst : zs_st s g i = true := c15; have ej : acc.toNatClampNeg = ja := (by rw [hea]; exact nI_clamp (by omega)); rw [zf_s, ← hacc]; unfold zs_leastF; rw [ej, if_pos (by simp [hst, Int32.not_le.mp c41])]) (Or.inr ⟨i, by omega, rfl, hsi⟩)
  exact L4 0 (Nat.zero_le _) 0 (-1) rfl rfl (Or.inl rfl)
