/-! java.util.ArrayList, first part: init, size, get; lists taken apart and put together -/
set_option maxRecDepth 100000
/-- M is M0 with the list l taken apart -/
def zlo (w : zw_W) (M0 : zw_M) (l n : Nat) (el : Nat → Nat) (M : zw_M) (mc : Int32) (arr : Nat) : Prop :=
  M l = some (zw_oL mc arr n) ∧ M0 l = some (zw_eL n el) ∧ (∀ a e, a ≠ l → M0 a = some e → M a = some e) ∧
  ((n = 0 ∧ arr = zw_k w 5) ∨ (0 < n ∧ M0 arr = none ∧ ∃ (cap : Nat) (f : Nat → Option Nat), M arr = some (zw_eO w cap f) ∧ n ≤ cap ∧ cap ≤ 64 ∧ ∀ i, i < n → f i = some (el i)))
theorem zlo.mc {w : zw_W} {M0 M : zw_M} {l n arr : Nat} {el : Nat → Nat} {mc mc' : Int32} (h : zlo w M0 l n el M mc arr) : zlo w M0 l n el (zw_u M l (zw_oL mc' arr n)) mc' arr := by
  obtain ⟨h1, h2, h3, h4⟩ := h
  refine ⟨zw_us, h2, fun a e ha he => zw_un' ha (h3 a e ha he), ?_⟩
  rcases h4 with h | ⟨h, h5, cap, f, h6, h7⟩
  · exact Or.inl h
  · refine Or.inr ⟨h, h5, cap, f, zw_un' (fun q => ?_) h6, h7⟩
    rw [q, h2] at h5
    cases h5
section ZL
variable {X : zw_X} {M0 M : zw_M} {c n pc : Nat} {lv : List (Option Value)} {st : List Value}
theorem zw_opE {l ln : Nat} {el : Nat → Nat} (hM : M0 l = some (zw_eL ln el)) (k : ∀ (M : zw_M) (mc : Int32) (arr : Nat), zlo (zw_Xw X) M0 l ln el M mc arr → zw_Z X M c n pc lv st) : zw_Z X M0 c n pc lv st := by
  rcases Nat.eq_zero_or_pos ln with rfl | hn
  · exact zw_opn0 hM (fun mc => k _ mc _ ⟨zw_us, hM, fun a e ha he => zw_un' ha he, Or.inl ⟨rfl, rfl⟩⟩)
  · refine zw_opn hM hn (fun arr cap f mc h1 h2 h3 h4 h5 => k _ mc arr ⟨zw_un' (Ne.symm h5) zw_us, hM, fun a e ha he => zw_un' (zw_nn he h4) (zw_un' ha he), Or.inr ⟨hn, h4, cap, f, zw_us, h1, h2, h3⟩⟩)
theorem zw_clA {l ln arr cap : Nat} {el : Nat → Nat} {f : Nat → Option Nat} {mc : Int32} (hl : M l = some (zw_oL mc arr ln)) (ha : M arr = some (zw_eO (zw_Xw X) cap f)) (hn : 0 < ln) (hc : ln ≤ cap) (hc2 : cap ≤ 64) (hf : ∀ i, i < ln → f i = some (el i)) (h0 : M0 arr = none) (hk : ∀ a e, a ≠ l → M0 a = some e → M a = some e)
    (k : zw_Z X (zw_u M0 l (zw_eL ln el)) c n pc lv st) : zw_Z X M c n pc lv st := by
  have hal : arr ≠ l := zw_ne ha hl (by simp)
  refine zw_mono (M' := fun a => if a = l then M l else if a = arr then M arr else M0 a) (fun a e he => ?_) (fun l' n' el' a _ ha2 => ?_) ?_
  · by_cases q : a = l
    · subst q; rwa [if_pos rfl] at he
    · rw [if_neg q] at he
      by_cases q2 : a = arr
      · subst q2; rwa [if_pos rfl] at he
      · rw [if_neg q2] at he; exact hk a e q he
  · by_cases q : a = l
    · subst q; simp only [if_pos]; exact ha2
    · by_cases q2 : a = arr
      · subst q2; simp only [if_neg q, if_pos]; exact ha2
      · simp only [if_neg q, if_neg q2]
        cases hM : M0 a with
        | none => rfl
        | some e => rw [hk a e q hM] at ha2; cases ha2
  · refine zw_close (M' := zw_u M0 l (zw_eL ln el)) (by simp only [if_pos]; exact hl) (by simp only [if_neg hal, if_pos]; exact ha) hn hc hc2 hf zw_us (by rw [zw_un hal]; exact h0) (fun a q1 q2 => ?_) k
    rw [zw_un q1]
    simp only [if_neg q1, if_neg q2]
theorem zw_clE {l ln arr : Nat} {el : Nat → Nat} {mc : Int32} (h : zlo (zw_Xw X) M0 l ln el M mc arr) (k : zw_Z X M0 c n pc lv st) : zw_Z X M c n pc lv st := by
  obtain ⟨h1, h2, h3, h4⟩ := h
  have hs : ∀ a, zw_u M0 l (zw_eL ln el) a = M0 a := fun a => by
    by_cases q : a = l
    · subst q; rw [zw_us, h2]
    · rw [zw_un q]
  rcases h4 with ⟨rfl, rfl⟩ | ⟨hn, h5, cap, f, h6, h7, h8, h9⟩
  · refine zw_mono (M' := zw_u M0 l (zw_oL mc (zw_k (zw_Xw X) 5) 0)) (fun a e he => ?_) (fun l' n' el' a _ ha2 => ?_) ?_
    · by_cases q : a = l
      · subst q; rw [zw_us] at he; rw [h1]; exact he
      · rw [zw_un q] at he; exact h3 a e q he
    · by_cases q : a = l
      · subst q; rw [h1] at ha2; cases ha2
      · rw [zw_un q]
        cases hM : M0 a with
        | none => rfl
        | some e => rw [h3 a e q hM] at ha2; cases ha2
    · exact zw_close0 (M' := M0) zw_us h2 (fun a q => (zw_un q).symm) k
  · exact zw_clA h1 h6 hn h7 h8 h9 h5 h3 (zw_ext hs k)
end ZL
/-- an object of a class of ours -/
def zlk (M : zw_M) (y : Nat) : Prop := ∃ (ci : Nat) (rr : vw_C) (fs : List Value), zw_cl[ci]? = some rr ∧ M y = some (zw_eC ci fs) ∧ Cond.castable rr.1 "java/lang/Object" ∈ lw_tbl
theorem zlk.keep {w : zw_W} {M0 M : zw_M} {l n arr y : Nat} {el : Nat → Nat} {mc : Int32} (h : zlo w M0 l n el M mc arr) (hy : zlk M0 y) : zlk M y ∧ y ≠ l := by
  obtain ⟨ci, rr, fs, h1, h2, h3⟩ := hy
  have hyl : y ≠ l := zw_ne h2 h.2.1 (by simp)
  exact ⟨⟨ci, rr, fs, h1, h.2.2.1 y _ hyl h2, h3⟩, hyl⟩

set_option maxHeartbeats 2000000 in
theorem ct_J0_init {w : zw_W} {l : Launch} (hl : l.stackTraces = false) (M : zw_M) (a : Nat) : zw_C w l yJ0_init cJ0_init 1 (Option.none : Option Jvm.ClassFile.FieldType) (zr 2 0 0) [.ref a] M (zw_pv fun M1 => M1 = M) zw_no := by
  refine zw_enter RJ0 rfl (by decide) hl (by simp [Value.category]) (Nat.le_of_ble_eq_true rfl) (fun X hXl hXw K hE htab hcon => ?_)
  subst hXl; subst hXw
  show zw_Z X _ 0 0 0 [some (.ref a)] []
  refine zw_aload_n (v := .ref a) (pc' := 1) K dJ0_init_0 rfl rfl rfl ?_
  refine zw_objInit (pc' := 4) K q65 q52 q53 dJ0_init_1 rfl ⟨Nat.le_of_ble_eq_true rfl, Nat.le_of_ble_eq_true rfl⟩ ?_
  exact zw_vret K hE dJ0_init_4 ⟨Nat.le_of_ble_eq_true rfl, Nat.le_of_ble_eq_true rfl⟩ rfl
set_option maxHeartbeats 2000000 in
theorem ct_J1_init {w : zw_W} {l : Launch} (hl : l.stackTraces = false) (M : zw_M) (a : Nat) (hM : M a = some (zw_eC 5 [.int 0, .null, .int 0])) : zw_C w l yJ1_init cJ1_init 1 (Option.none : Option Jvm.ClassFile.FieldType) (zr 3 0 0) [.ref a] M (zw_pv fun M1 => M1 = M) zw_no := by
  refine zw_enter RJ1 rfl (by decide) hl (by simp [Value.category]) (Nat.le_of_ble_eq_true rfl) (fun X hXl hXw K hE htab hcon => ?_)
  subst hXl; subst hXw
  show zw_Z X _ 0 0 0 [some (.ref a)] []
  refine zw_aload_n (v := .ref a) (pc' := 1) K dJ1_init_0 rfl rfl rfl ?_
  refine zc_J1_1 (rest := []) (c' := 0) (n' := 0) (pc' := 4) K (ct_J0_init hl M a) rfl rfl dJ1_init_1 rfl (Nat.le_of_ble_eq_true rfl) ⟨Nat.le_of_ble_eq_true rfl, Nat.le_of_ble_eq_true rfl⟩ ⟨Nat.le_of_ble_eq_true rfl, Nat.le_of_ble_eq_true rfl, Nat.le_of_ble_eq_true rfl, Nat.le_of_ble_eq_true rfl⟩ (zw_kpv ?_) zw_kn
  refine zw_aload_n (v := .ref a) (pc' := 5) K dJ1_init_4 rfl rfl rfl ?_
  refine zw_iconst (v := 0) (pc' := 6) K dJ1_init_5 (by decide) rfl ?_
  refine zp_J1_7 (v := .int 0) (pc' := 9) K hM rfl rfl (by simp) dJ1_init_6 rfl ?_
  refine zw_nmM (fun M1 eM1 => ?_)
  have f2 : M1 a = some (zw_eC 5 [.int 0, .null, .int 0]) := by rw [eM1]; exact zw_us
  exact zw_vret K hE dJ1_init_9 ⟨Nat.le_of_ble_eq_true rfl, Nat.le_of_ble_eq_true rfl⟩ (by rw [eM1]; funext b; by_cases q : b = a; subst q; rw [zw_us]; exact hM.symm; exact zw_un q)
set_option maxHeartbeats 2000000 in
theorem ct_J2_init {w : zw_W} {l : Launch} (hl : l.stackTraces = false) (M : zw_M) (a : Nat) (hM : M a = some (zw_eC 5 [.int 0, .null, .int 0])) (el : Nat → Nat) : zw_C w l yJ2_init cJ2_init 1 (Option.none : Option Jvm.ClassFile.FieldType) (zr 4 0 0) [.ref a] M (zw_pv fun M1 => M1 = zw_u M a (zw_eL 0 el)) zw_no := by
  refine zw_enter RJ2 rfl (by decide) hl (by simp [Value.category]) (Nat.le_of_ble_eq_true rfl) (fun X hXl hXw K hE htab hcon => ?_)
  subst hXl; subst hXw
  show zw_Z X _ 0 0 0 [some (.ref a)] []
  refine zw_aload_n (v := .ref a) (pc' := 1) K dJ2_init_0 rfl rfl rfl ?_
  refine zc_J2_1 (rest := []) (c' := 0) (n' := 0) (pc' := 4) K (ct_J1_init hl M a hM) rfl rfl dJ2_init_1 rfl (Nat.le_of_ble_eq_true rfl) ⟨Nat.le_of_ble_eq_true rfl, Nat.le_of_ble_eq_true rfl⟩ ⟨Nat.le_of_ble_eq_true rfl, Nat.le_of_ble_eq_true rfl, Nat.le_of_ble_eq_true rfl, Nat.le_of_ble_eq_true rfl⟩ (zw_kpv ?_) zw_kn
  refine zw_aload_n (v := .ref a) (pc' := 5) K dJ2_init_4 rfl rfl rfl ?_
  refine zw_gets (pc' := 8) K q66 dJ2_init_5 rfl ?_
  refine zp_J2_9 (v := .ref (zw_k (zw_Xw X) 5)) (pc' := 11) K hM rfl rfl (by simp) dJ2_init_8 rfl ?_
  refine zw_nmM (fun M1 eM1 => ?_)
  have f2 : M1 a = some (zw_eC 5 [.int 0, .ref (zw_k (zw_Xw X) 5), .int 0]) := by rw [eM1]; exact zw_us
  refine zw_close0 (M' := zw_u M a (zw_eL 0 el)) (mc := 0) (by rw [eM1]; exact zw_us) zw_us (fun b q => by rw [eM1, zw_un q, zw_un q]) ?_
  exact zw_vret K hE dJ2_init_11 ⟨Nat.le_of_ble_eq_true rfl, Nat.le_of_ble_eq_true rfl⟩ rfl
set_option maxHeartbeats 2000000 in
theorem ct_J2_size {w : zw_W} {la : Launch} (hl : la.stackTraces = false) (M : zw_M) (l : Nat) {n : Nat} {el : Nat → Nat} (hM : M l = some (zw_eL n el)) : zw_C w la yJ2_size cJ2_size 1 (Option.some Jvm.ClassFile.FieldType.int) (zr 1 0 0) [.ref l] M (zw_pi fun r M1 => r = nI n ∧ M1 = M) zw_no := by
  refine zw_enter RJ2 rfl (by decide) hl (by simp [Value.category]) (Nat.le_of_ble_eq_true rfl) (fun X hXl hXw K hE htab hcon => ?_)
  subst hXl; subst hXw
  show zw_Z X _ 0 0 0 [some (.ref l)] []
  refine zw_opE hM (fun M2 mc arr hO => ?_)
  refine zw_aload_n (v := .ref l) (pc' := 1) K dJ2_size_0 rfl rfl rfl ?_
  refine zg_J2_48 (v := .int (nI n)) (pc' := 4) K hO.1 rfl dJ2_size_1 rfl ?_
  refine zw_clE hO ?_
  exact zw_iret K hE dJ2_size_4 ⟨Nat.le_of_ble_eq_true rfl, Nat.le_of_ble_eq_true rfl⟩ (⟨rfl, rfl⟩)
set_option maxHeartbeats 2000000 in
theorem ct_J14_checkIndex {w : zw_W} {l : Launch} (hl : l.stackTraces = false) (M : zw_M) (j n : Nat) (hj : j < n) (hn : n < 2 ^ 31) : zw_C w l yJ14_checkIndex cJ14_checkIndex 3 (Option.some Jvm.ClassFile.FieldType.int) (zr 1 0 0) [.int (nI j), .int (nI n), .null] M (zw_pi fun r M1 => r = nI j ∧ M1 = M) zw_no := by
  refine zw_enter RJ14 rfl (by decide) hl (by simp [Value.category]) (Nat.le_of_ble_eq_true rfl) (fun X hXl hXw K hE htab hcon => ?_)
  subst hXl; subst hXw
  show zw_Z X _ 0 0 0 [some (.int (nI j)), some (.int (nI n)), some (.null)] []
  refine zw_iload_n (x := nI j) (pc' := 1) K dJ14_checkIndex_0 rfl rfl ?_
  refine zw_if_lt (tgt := 9) (pc' := 4) K dJ14_checkIndex_1 (by decide) rfl (fun c1 => absurd c1 (nI_pos (by omega))) (fun c1 => ?_)
  refine zw_iload_n (x := nI j) (pc' := 5) K dJ14_checkIndex_4 rfl rfl ?_
  refine zw_iload_n (x := nI n) (pc' := 6) K dJ14_checkIndex_5 rfl rfl ?_
  refine zw_icmp_lt (tgt := 16) (pc' := 9) K dJ14_checkIndex_6 (by decide) rfl (fun c6 => ?_) (fun c6 => by exact absurd (nI_lt hj hn) c6)
  refine zw_iload_n (x := nI j) (pc' := 17) K dJ14_checkIndex_16 rfl rfl ?_
  exact zw_iret K hE dJ14_checkIndex_17 ⟨Nat.le_of_ble_eq_true rfl, Nat.le_of_ble_eq_true rfl⟩ (⟨rfl, rfl⟩)
set_option maxHeartbeats 2000000 in
theorem ct_J13_checkIndex {w : zw_W} {l : Launch} (hl : l.stackTraces = false) (M : zw_M) (j n : Nat) (hj : j < n) (hn : n < 2 ^ 31) : zw_C w l yJ13_checkIndex cJ13_checkIndex 2 (Option.some Jvm.ClassFile.FieldType.int) (zr 2 0 0) [.int (nI j), .int (nI n)] M (zw_pi fun r M1 => r = nI j ∧ M1 = M) zw_no := by
  refine zw_enter RJ13 rfl (by decide) hl (by simp [Value.category]) (Nat.le_of_ble_eq_true rfl) (fun X hXl hXw K hE htab hcon => ?_)
  subst hXl; subst hXw
  show zw_Z X _ 0 0 0 [some (.int (nI j)), some (.int (nI n))] []
  refine zw_iload_n (x := nI j) (pc' := 1) K dJ13_checkIndex_0 rfl rfl ?_
  refine zw_iload_n (x := nI n) (pc' := 2) K dJ13_checkIndex_1 rfl rfl ?_
  refine zw_null (pc' := 3) K dJ13_checkIndex_2 rfl ?_
  refine zc_J13_105 (rest := []) (c' := 0) (n' := 0) (pc' := 6) K (ct_J14_checkIndex hl M j n hj hn) rfl rfl dJ13_checkIndex_3 rfl (Nat.le_of_ble_eq_true rfl) ⟨Nat.le_of_ble_eq_true rfl, Nat.le_of_ble_eq_true rfl⟩ ⟨Nat.le_of_ble_eq_true rfl, Nat.le_of_ble_eq_true rfl, Nat.le_of_ble_eq_true rfl, Nat.le_of_ble_eq_true rfl⟩ (zw_kp ?_) zw_kn
  exact zw_iret K hE dJ13_checkIndex_6 ⟨Nat.le_of_ble_eq_true rfl, Nat.le_of_ble_eq_true rfl⟩ (⟨rfl, rfl⟩)
set_option maxHeartbeats 2000000 in
theorem ct_J2_elementData {w : zw_W} {la : Launch} (hl : la.stackTraces = false) (M : zw_M) (l j : Nat) {mc : Int32} {arr n cap : Nat} {f : Nat → Option Nat} (hO : M l = some (zw_oL mc arr n)) (hA : M arr = some (zw_eO w cap f)) (hj : j < cap) (hc : cap ≤ 64) : zw_C w la yJ2_elementData cJ2_elementData 2 (Option.some (Jvm.ClassFile.FieldType.object "java/lang/Object")) (zr 1 0 0) [.ref l, .int (nI j)] M (zw_pr fun r M1 => r = f j ∧ M1 = M) zw_no := by
  refine zw_enter RJ2 rfl (by decide) hl (by simp [Value.category]) (Nat.le_of_ble_eq_true rfl) (fun X hXl hXw K hE htab hcon => ?_)
  subst hXl; subst hXw
  show zw_Z X _ 0 0 0 [some (.ref l), some (.int (nI j))] []
  refine zw_aload_n (v := .ref l) (pc' := 1) K dJ2_elementData_0 rfl rfl rfl ?_
  refine zg_J2_9 (v := .ref arr) (pc' := 4) K hO rfl dJ2_elementData_1 rfl ?_
  refine zw_iload_n (x := nI j) (pc' := 5) K dJ2_elementData_4 rfl rfl ?_
  refine zn_aaldO (j := j) (v := (f j)) (pc' := 6) K hA rfl hj rfl dJ2_elementData_5 rfl ?_ (by omega)
  exact zw_aret (r := f j) K hE (Or.inl ⟨_, rfl⟩) dJ2_elementData_6 ⟨Nat.le_of_ble_eq_true rfl, Nat.le_of_ble_eq_true rfl⟩ (⟨rfl, rfl⟩)
set_option maxHeartbeats 2000000 in
theorem ct_J2_get {w : zw_W} {la : Launch} (hl : la.stackTraces = false) (M : zw_M) (l j : Nat) {n : Nat} {el : Nat → Nat} (hM : M l = some (zw_eL n el)) (hj : j < n) : zw_C w la yJ2_get cJ2_get 2 (Option.some (Jvm.ClassFile.FieldType.object "java/lang/Object")) (zr 3 0 0) [.ref l, .int (nI j)] M (zw_pr fun r M1 => r = some (el j) ∧ M1 = M) zw_no := by
  refine zw_enter RJ2 rfl (by decide) hl (by simp [Value.category]) (Nat.le_of_ble_eq_true rfl) (fun X hXl hXw K hE htab hcon => ?_)
  subst hXl; subst hXw
  show zw_Z X _ 0 0 0 [some (.ref l), some (.int (nI j))] []
  refine zw_opE hM (fun M2 mc arr hO => ?_)
  obtain ⟨h0, -⟩ | ⟨hn, hN, cap, f, hA, hc1, hc2, hf⟩ := hO.2.2.2
  · omega
  refine zw_iload_n (x := nI j) (pc' := 1) K dJ2_get_0 rfl rfl ?_
  refine zw_aload_n (v := .ref l) (pc' := 2) K dJ2_get_1 rfl rfl rfl ?_
  refine zg_J2_48 (v := .int (nI n)) (pc' := 5) K hO.1 rfl dJ2_get_2 rfl ?_
  refine zc_J2_118 (rest := []) (c' := 0) (n' := 0) (pc' := 8) K (ct_J13_checkIndex hl M2 j n hj (by omega)) rfl rfl dJ2_get_5 rfl (Nat.le_of_ble_eq_true rfl) ⟨Nat.le_of_ble_eq_true rfl, Nat.le_of_ble_eq_true rfl⟩ ⟨Nat.le_of_ble_eq_true rfl, Nat.le_of_ble_eq_true rfl, Nat.le_of_ble_eq_true rfl, Nat.le_of_ble_eq_true rfl⟩ (zw_kp ?_) zw_kn
  refine zw_pop (pc' := 9) K dJ2_get_8 rfl rfl ?_
  refine zw_aload_n (v := .ref l) (pc' := 10) K dJ2_get_9 rfl rfl rfl ?_
  refine zw_iload_n (x := nI j) (pc' := 11) K dJ2_get_10 rfl rfl ?_
  refine zc_J2_123 (rest := []) (c' := 0) (n' := 0) (pc' := 14) K (ct_J2_elementData hl M2 l j hO.1 hA (by omega) hc2) hO.1 rfl rfl dJ2_get_11 rfl (Nat.le_of_ble_eq_true rfl) ⟨Nat.le_of_ble_eq_true rfl, Nat.le_of_ble_eq_true rfl⟩ ⟨Nat.le_of_ble_eq_true rfl, Nat.le_of_ble_eq_true rfl, Nat.le_of_ble_eq_true rfl, Nat.le_of_ble_eq_true rfl⟩ (zw_kpr ?_) zw_kn
  refine zw_clE hO ?_
  exact zw_aret (r := f j) K hE (Or.inl ⟨_, rfl⟩) dJ2_get_14 ⟨Nat.le_of_ble_eq_true rfl, Nat.le_of_ble_eq_true rfl⟩ (⟨hf j hj, rfl⟩)
