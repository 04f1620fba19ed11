/-! CartelWatch: a new file -/
set_option maxRecDepth 100000
theorem zhv_eq {σ : zS} (hI : zI σ) {x y : Int32} (h : zpair x y = true) {j : Nat} (hj : j < zg σ) : ((x == zv σ 7 j || x == zv σ 8 j) && (y == zv σ 7 j || y == zv σ 8 j)) = (zv σ 7 j == zs_min x y && zv σ 8 j == zs_max x y) := by
  unfold zpair at h
  rw [Bool.and_eq_true, Bool.and_eq_true] at h
  obtain ⟨⟨h1, h2⟩, h3⟩ := h
  obtain ⟨p, hp, rfl⟩ := zin_of h1 (by decide)
  obtain ⟨q, hq, rfl⟩ := zin_of h2 (by decide)
  have E : ∀ s t : Nat, s < 7 → t < 7 → (nI s == nI t) = decide (s = t) := fun s t hs ht => by
    rw [Bool.eq_iff_iff, beq_iff_eq, nI_eq (by omega) (by omega), decide_eq_true_eq]
  rw [E p q hp hq, Bool.not_eq_true', decide_eq_false_iff_not] at h3
  obtain ⟨⟨c, d, hcd, hd, e7, e8⟩, -⟩ := hI.fi hj
  rw [e7, e8]
  rcases zmm hp hq h3 with ⟨q1, q2, q3⟩ | ⟨q1, q2, q3⟩
  · rw [q2, q3, E p c hp (by omega), E p d hp hd, E q c hq (by omega), E q d hq hd, E c p (by omega) hp, E d q hd hq, Bool.eq_iff_iff]
    simp only [Bool.and_eq_true, Bool.or_eq_true, decide_eq_true_eq]
    omega
  · rw [q2, q3, E p c hp (by omega), E p d hp hd, E q c hq (by omega), E q d hq hd, E c q (by omega) hq, E d p hd hp, Bool.eq_iff_iff]
    simp only [Bool.and_eq_true, Bool.or_eq_true, decide_eq_true_eq]
    omega
theorem zhad_0 {σ : zS} (hI : zI σ) {x y : Int32} (h : zpair x y = true) : (zf (fun j z => z + zb ((x == zv σ 7 j || x == zv σ 8 j) && (y == zv σ 7 j || y == zv σ 8 j))) (zg σ) 0 = 0) ↔ zhad σ (zs_min x y) (zs_max x y) = false := by
  have hg := hI.g
  have key : ∀ k, k ≤ zg σ → ∃ m, m ≤ k ∧ zf (fun j z => z + zb ((x == zv σ 7 j || x == zv σ 8 j) && (y == zv σ 7 j || y == zv σ 8 j))) k 0 = nI m ∧ (m = 0 ↔ zf (zhadF σ (zs_min x y) (zs_max x y)) k false = false) := by
    intro k
    induction k with
    | zero => intro _; exact ⟨0, Nat.le_refl 0, rfl, fun _ => rfl, fun _ => rfl⟩
    | succ k ih =>
      intro hk
      obtain ⟨m, hm, e1, e2⟩ := ih (by omega)
      rw [zf_s, zf_s, e1]
      show ∃ m', m' ≤ k + 1 ∧ nI m + zb ((x == zv σ 7 k || x == zv σ 8 k) && (y == zv σ 7 k || y == zv σ 8 k)) = nI m' ∧ (m' = 0 ↔ (zf (zhadF σ (zs_min x y) (zs_max x y)) k false || (zv σ 7 k == zs_min x y && zv σ 8 k == zs_max x y)) = false)
      rw [zhv_eq hI h (by omega : k < zg σ)]
      cases hb : (zv σ 7 k == zs_min x y && zv σ 8 k == zs_max x y) with
      | false => exact ⟨m, by omega, Int32.add_zero _, by rw [Bool.or_false]; exact e2⟩
      | true => exact ⟨m + 1, by omega, nI_1 m, fun z => by omega, fun z => by rw [Bool.or_true] at z; cases z⟩
  obtain ⟨m, hm, e1, e2⟩ := key (zg σ) (Nat.le_refl _)
  rw [e1]
  unfold zhad
  rw [← e2, show (0 : Int32) = nI 0 by decide, nI_eq (by omega) (by decide)]
theorem zml_k {σ : zS} (a b : Int32) : ∀ k, (zf (zmlF σ a b) k []).Nodup ∧ ∀ t ∈ zf (zmlF σ a b) k [], t < k := by
  intro k
  induction k with
  | zero => exact ⟨List.nodup_nil, fun t ht => absurd ht List.not_mem_nil⟩
  | succ k ih =>
    rw [zf_s]
    generalize zf (zmlF σ a b) k [] = l at ih ⊢
    by_cases z : 0 < zsign σ k a b
    · have e : zmlF σ a b k l = l ++ [k] := if_pos z
      rw [e]
      refine ⟨znd ih.1 (fun h => absurd (ih.2 k h) (Nat.lt_irrefl k)), fun t ht => ?_⟩
      rcases List.mem_append.mp ht with y | y
      · exact Nat.lt_succ_of_lt (ih.2 t y)
      · rw [List.mem_singleton] at y; omega
    · have e : zmlF σ a b k l = l := if_neg z
      rw [e]
      exact ⟨ih.1, fun t ht => Nat.lt_succ_of_lt (ih.2 t ht)⟩
theorem znw_inj {L : List Nat} (h : L.Nodup) (h6 : L.length = 6) : ∀ k k', 20 ≤ k → k ≤ 25 → 20 ≤ k' → k' ≤ 25 → L.getD (k - 20) 0 = L.getD (k' - 20) 0 → k = k' := by
  intro k k' h1 h2 h3 h4 e
  rw [List.getD_eq_getElem?_getD, List.getElem?_eq_getElem (by omega), List.getD_eq_getElem?_getD, List.getElem?_eq_getElem (by omega)] at e
  have e : L[k - 20]'(by omega) = L[k' - 20]'(by omega) := e
  rcases Nat.lt_trichotomy (k - 20) (k' - 20) with z | z | z
  · exact absurd e (List.pairwise_iff_getElem.mp h _ _ (by omega) (by omega) z)
  · omega
  · exact absurd e.symm (List.pairwise_iff_getElem.mp h _ _ (by omega) (by omega) z)
/-- the new file's cells while it is made -/
def zfq (w : zw_W) (M0 M : zw_M) (ad : Nat → Nat → Nat → Nat) (qi p q1 q9 q17 q22 a b : Nat) (l : List Nat) : Prop :=
  (∀ c e, M0 c = some e → M c = some e) ∧ M qi = some (zw_eC 4 [.ref p, .ref q1, .ref q9, .ref q17, .ref q22, .int (-1), .int 0]) ∧ M p = some (zw_eC 3 [.int (nI a), .int (nI b)]) ∧
  M q1 = some (zw_eL l.length (fun q => ad 10 (l.getD q 99) 0)) ∧ M q9 = some (zw_eL 0 (fun _ => ad 10 99 0)) ∧ M q17 = some (zw_eI w 7 (fun _ => 0)) ∧ M q22 = some (zw_eI w 7 (fun _ => 0))
theorem zfq.add {w : zw_W} {M0 M : zw_M} {ad : Nat → Nat → Nat → Nat} {qi p q1 q9 q17 q22 a b t : Nat} {l : List Nat} (h : zfq w M0 M ad qi p q1 q9 q17 q22 a b l) (h0 : M0 q1 = none) (hnd : [qi, p, q1, q9, q17, q22].Nodup) :
    zfq w M0 (zw_u M q1 (zw_eL (l.length + 1) (zlu (fun q => ad 10 (l.getD q 99) 0) l.length (ad 10 t 0)))) ad qi p q1 q9 q17 q22 a b (l ++ [t]) := by
  obtain ⟨g0, g1, g2, g3, g4, g5, g6⟩ := h
  simp only [List.nodup_cons, List.mem_cons, List.not_mem_nil, or_false, not_or] at hnd
  refine ⟨fun c e he => zw_un' (zw_nn he h0) (g0 c e he), zw_un' (by omega) g1, zw_un' (by omega) g2, ?_, zw_un' (by omega) g4, zw_un' (by omega) g5, zw_un' (by omega) g6⟩
  rw [zlu_app, List.length_append]
  exact zw_us
section ZWP
variable {w : zw_W} {M M1 : zw_M} {ad ad' : Nat → Nat → Nat → Nat} {σ μ : zS} {th : Int32} {o : Int64}
/-- the addresses with a new file's -/
def zadf (ad : Nat → Nat → Nat → Nat) (g : Nat) (nw : Nat → Nat) : Nat → Nat → Nat → Nat := fun k i j => if 20 ≤ k ∧ k ≤ 25 ∧ i = g ∧ j = 0 then nw k else ad k i j
theorem zW.filed (h : zW w M ad σ μ th o) (hI : zI σ) (h20 : ¬ zg σ = 20) {nw : Nat → Nat} {a b : Nat} {l : List Nat} (hq : ∀ k, 20 ≤ k → k ≤ 25 → M (nw k) = none) (hinj : ∀ k k', 20 ≤ k → k ≤ 25 → 20 ≤ k' → k' ≤ 25 → nw k = nw k' → k = k')
    (f20 : M1 (nw 20) = some (zw_eC 4 [.ref (nw 21), .ref (nw 22), .ref (nw 23), .ref (nw 24), .ref (nw 25), .int (-1), .int 0])) (f21 : M1 (nw 21) = some (zw_eC 3 [.int (nI a), .int (nI b)]))
    (f22 : M1 (nw 22) = some (zw_eL l.length (fun q => ad 10 (l.getD q 99) 0))) (f23 : M1 (nw 23) = some (zw_eL 0 (fun _ => ad 10 99 0))) (f24 : M1 (nw 24) = some (zw_eI w 7 (fun _ => 0))) (f25 : M1 (nw 25) = some (zw_eI w 7 (fun _ => 0)))
    (f2 : M1 (ad 2 0 0) = some (zw_eL (zg σ + 1) (zlu (fun f => ad 20 f 0) (zg σ) (nw 20)))) (hk : ∀ a e, a ≠ ad 2 0 0 → M a = some e → M1 a = some e) : zW w M1 (zadf ad (zg σ) nw) (zsetg (zsetm (zset (zset (zset σ 7 (zg σ) (nI a)) 8 (zg σ) (nI b)) 9 (zg σ) (-1)) (zg σ) l) (zg σ + 1)) μ th o := by
  have hg20 := hI.g
  have AK : ∀ k, 20 ≤ k → k ≤ 25 → zadf ad (zg σ) nw k (zg σ) 0 = nw k := fun k h1 h2 => if_pos ⟨h1, h2, rfl, rfl⟩
  have AN : ∀ k i j, ¬ (20 ≤ k ∧ k ≤ 25 ∧ i = zg σ ∧ j = 0) → zadf ad (zg σ) nw k i j = ad k i j := fun k i j z => if_neg z
  generalize zadf ad (zg σ) nw = ad' at AK AN ⊢
  obtain ⟨y1, y2, y3, y4, y5, y6, y7⟩ := hI.nf (Nat.le_refl (zg σ))
  have hlt : zg σ < zg (zsetg (zsetm (zset (zset (zset σ 7 (zg σ) (nI a)) 8 (zg σ) (nI b)) 9 (zg σ) (-1)) (zg σ) l) (zg σ + 1)) := Nat.lt_succ_self (zg σ)
  have v7 : zv (zsetg (zsetm (zset (zset (zset σ 7 (zg σ) (nI a)) 8 (zg σ) (nI b)) 9 (zg σ) (-1)) (zg σ) l) (zg σ + 1)) 7 (zg σ) = nI a := by
    show zv (zset (zset (zset σ 7 (zg σ) (nI a)) 8 (zg σ) (nI b)) 9 (zg σ) (-1)) 7 (zg σ) = nI a
    rw [zv_ne (by omega), zv_ne (by omega), zv_eq ⟨rfl, rfl⟩]
  have v8 : zv (zsetg (zsetm (zset (zset (zset σ 7 (zg σ) (nI a)) 8 (zg σ) (nI b)) 9 (zg σ) (-1)) (zg σ) l) (zg σ + 1)) 8 (zg σ) = nI b := by
    show zv (zset (zset (zset σ 7 (zg σ) (nI a)) 8 (zg σ) (nI b)) 9 (zg σ) (-1)) 8 (zg σ) = nI b
    rw [zv_ne (by omega), zv_eq ⟨rfl, rfl⟩]
  have v9 : zv (zsetg (zsetm (zset (zset (zset σ 7 (zg σ) (nI a)) 8 (zg σ) (nI b)) 9 (zg σ) (-1)) (zg σ) l) (zg σ + 1)) 9 (zg σ) = -1 := zv_eq (σ := zset (zset σ 7 (zg σ) (nI a)) 8 (zg σ) (nI b)) ⟨rfl, rfl⟩
  have vm : zmt (zsetg (zsetm (zset (zset (zset σ 7 (zg σ) (nI a)) 8 (zg σ) (nI b)) 9 (zg σ) (-1)) (zg σ) l) (zg σ + 1)) (zg σ) = l := if_pos rfl
  have vp : ∀ v, (v = 10 ∨ v = 11) → zpr (zsetg (zsetm (zset (zset (zset σ 7 (zg σ) (nI a)) 8 (zg σ) (nI b)) 9 (zg σ) (-1)) (zg σ) l) (zg σ + 1)) v (zg σ) = fun _ => 0 := fun v hv => by
    funext c
    have a1 : zv (zsetg (zsetm (zset (zset (zset σ 7 (zg σ) (nI a)) 8 (zg σ) (nI b)) 9 (zg σ) (-1)) (zg σ) l) (zg σ + 1)) v (2 * zg σ) = 0 := by rcases hv with rfl | rfl; exact y3; exact y5
    have a2 : zv (zsetg (zsetm (zset (zset (zset σ 7 (zg σ) (nI a)) 8 (zg σ) (nI b)) 9 (zg σ) (-1)) (zg σ) l) (zg σ + 1)) v (2 * zg σ + 1) = 0 := by rcases hv with rfl | rfl; exact y4; exact y6
    unfold zpr
    rw [a1, a2]
    simp only [ite_self]
  refine h.grow (fun k i j => 20 ≤ k ∧ k ≤ 25 ∧ i = zg σ ∧ j = 0) (k1 := 2) (i1 := 0) (j1 := 0) (e1 := zw_eL (zg σ + 1) (zlu (fun f => ad 20 f 0) (zg σ) (nw 20))) AN ?_ ?_ (fun z => by omega) rfl ?_ f2 hk ?_
  · rintro k i j e9 ⟨h1, h2, rfl, rfl⟩ he
    rw [AK k h1 h2]
    refine ⟨hq k h1 h2, ?_⟩
    have hc : k = 20 ∨ k = 21 ∨ k = 22 ∨ k = 23 ∨ k = 24 ∨ k = 25 := by omega
    rcases hc with rfl | rfl | rfl | rfl | rfl | rfl
    · rw [zc_20 (σ := zsetg (zsetm (zset (zset (zset σ 7 (zg σ) (nI a)) 8 (zg σ) (nI b)) 9 (zg σ) (-1)) (zg σ) l) (zg σ + 1)) hlt, AK 21 (by omega) (by omega), AK 22 (by omega) (by omega), AK 23 (by omega) (by omega), AK 24 (by omega) (by omega), AK 25 (by omega) (by omega), v9, show zv (zsetg (zsetm (zset (zset (zset σ 7 (zg σ) (nI a)) 8 (zg σ) (nI b)) 9 (zg σ) (-1)) (zg σ) l) (zg σ + 1)) 12 (zg σ) = 0 from y7] at he
      cases he
      exact f20
    · rw [zc_21 (σ := zsetg (zsetm (zset (zset (zset σ 7 (zg σ) (nI a)) 8 (zg σ) (nI b)) 9 (zg σ) (-1)) (zg σ) l) (zg σ + 1)) hlt, v7, v8] at he
      cases he
      exact f21
    · rw [zc_22 (σ := zsetg (zsetm (zset (zset (zset σ 7 (zg σ) (nI a)) 8 (zg σ) (nI b)) 9 (zg σ) (-1)) (zg σ) l) (zg σ + 1)) hlt, vm, show (fun q => ad' 10 (l.getD q 99) 0) = (fun q => ad 10 (l.getD q 99) 0) from funext fun q => AN 10 _ 0 (by omega)] at he
      cases he
      exact f22
    · rw [zc_23 (σ := zsetg (zsetm (zset (zset (zset σ 7 (zg σ) (nI a)) 8 (zg σ) (nI b)) 9 (zg σ) (-1)) (zg σ) l) (zg σ + 1)) hlt, show ztd (zsetg (zsetm (zset (zset (zset σ 7 (zg σ) (nI a)) 8 (zg σ) (nI b)) 9 (zg σ) (-1)) (zg σ) l) (zg σ + 1)) (zg σ) = [] from y2, show (fun q => ad' 10 (([] : List Nat).getD q 99) 0) = (fun _ => ad 10 99 0) from funext fun q => AN 10 _ 0 (by omega)] at he
      cases he
      exact f23
    · rw [zc_24 (σ := zsetg (zsetm (zset (zset (zset σ 7 (zg σ) (nI a)) 8 (zg σ) (nI b)) 9 (zg σ) (-1)) (zg σ) l) (zg σ + 1)) hlt, vp 10 (Or.inl rfl)] at he
      cases he
      exact f24
    · rw [zc_25 (σ := zsetg (zsetm (zset (zset (zset σ 7 (zg σ) (nI a)) 8 (zg σ) (nI b)) 9 (zg σ) (-1)) (zg σ) l) (zg σ + 1)) hlt, vp 11 (Or.inr rfl)] at he
      cases he
      exact f25
  · rintro k i j k' i' j' ⟨h1, h2, rfl, rfl⟩ ⟨h3, h4, rfl, rfl⟩ hq9
    rw [AK k h1 h2, AK k' h3 h4] at hq9
    exact ⟨hinj k k' h1 h2 h3 h4 hq9, rfl, rfl⟩
  · have e : (fun f => ad' 20 f 0) = zlu (fun f => ad 20 f 0) (zg σ) (nw 20) := by
      funext f
      unfold zlu
      by_cases z : f = zg σ
      · rw [if_pos z, z, AK 20 (by omega) (by omega)]
      · rw [if_neg z, AN 20 f 0 (by omega)]
    show some (zw_eL (zg σ + 1) (fun f => ad' 20 f 0)) = _
    rw [e]
  · intro k i j hn h1
    unfold zc
    split
    · have sA : zcC w ad' (zsetg (zsetm (zset (zset (zset σ 7 (zg σ) (nI a)) 8 (zg σ) (nI b)) 9 (zg σ) (-1)) (zg σ) l) (zg σ + 1)) k i j = zcC w ad' (zsetm (zset (zset (zset σ 7 (zg σ) (nI a)) 8 (zg σ) (nI b)) 9 (zg σ) (-1)) (zg σ) l) k i j := by
        unfold zcC
        by_cases k10 : k < 10
        · rw [if_pos k10, if_pos k10]
          by_cases ij : i = 0 ∧ j = 0
          · have k2 : ¬ k = 2 := fun z => h1 ⟨z, ij⟩
            rw [if_pos ij, if_pos ij, if_neg k2, if_neg k2]
            rfl
          · rw [if_neg ij, if_neg ij]
        · rw [if_neg k10, if_neg k10]
          by_cases k20 : k < 20
          · rw [if_pos k20, if_pos k20]
            rfl
          · rw [if_neg k20, if_neg k20]
            by_cases hj : j = 0
            · by_cases hi : i = zg σ
              · have c1 : i < zg (zsetg (zsetm (zset (zset (zset σ 7 (zg σ) (nI a)) 8 (zg σ) (nI b)) 9 (zg σ) (-1)) (zg σ) l) (zg σ + 1)) ∧ j = 0 := ⟨by rw [hi]; exact hlt, hj⟩
                have c2 : ¬ (i < zg (zsetm (zset (zset (zset σ 7 (zg σ) (nI a)) 8 (zg σ) (nI b)) 9 (zg σ) (-1)) (zg σ) l) ∧ j = 0) := fun z => by rw [hi] at z; exact Nat.lt_irrefl (zg σ) z.1
                rw [if_pos c1, if_neg c2, if_neg (by omega), if_neg (by omega), if_neg (by omega), if_neg (by omega), if_neg (by omega), if_neg (by omega)]
              · by_cases hl : i < zg σ
                · rw [if_pos (show i < zg (zsetg (zsetm (zset (zset (zset σ 7 (zg σ) (nI a)) 8 (zg σ) (nI b)) 9 (zg σ) (-1)) (zg σ) l) (zg σ + 1)) ∧ j = 0 from ⟨Nat.lt_succ_of_lt hl, hj⟩), if_pos (show i < zg (zsetm (zset (zset (zset σ 7 (zg σ) (nI a)) 8 (zg σ) (nI b)) 9 (zg σ) (-1)) (zg σ) l) ∧ j = 0 from ⟨hl, hj⟩)]
                  rfl
                · rw [if_neg (show ¬ (i < zg (zsetg (zsetm (zset (zset (zset σ 7 (zg σ) (nI a)) 8 (zg σ) (nI b)) 9 (zg σ) (-1)) (zg σ) l) (zg σ + 1)) ∧ j = 0) from fun z => hi (by have z : i < zg σ + 1 := z.1; omega)), if_neg (show ¬ (i < zg (zsetm (zset (zset (zset σ 7 (zg σ) (nI a)) 8 (zg σ) (nI b)) 9 (zg σ) (-1)) (zg σ) l) ∧ j = 0) from fun z => hl z.1)]
            · rw [if_neg (fun z => hj z.2), if_neg (fun z => hj z.2)]
      have sB : zcC w ad' (zsetm (zset (zset (zset σ 7 (zg σ) (nI a)) 8 (zg σ) (nI b)) 9 (zg σ) (-1)) (zg σ) l) k i j = zcC w ad (zsetm (zset (zset (zset σ 7 (zg σ) (nI a)) 8 (zg σ) (nI b)) 9 (zg σ) (-1)) (zg σ) l) k i j := zcC_ad2 (fun _ => ⟨AN 1 0 0 (by omega), AN 2 0 0 (by omega), AN 3 0 0 (by omega)⟩) (fun _ _ t => AN 10 t 0 (by omega)) (fun z y => absurd ⟨z, y⟩ h1)
        (fun _ _ => AN 11 i 0 (by omega)) (fun _ _ b _ => AN 12 i b (by omega)) (fun _ y => by have y : i < zg σ := y.1; exact ⟨AN 21 i 0 (by omega), AN 22 i 0 (by omega), AN 23 i 0 (by omega), AN 24 i 0 (by omega), AN 25 i 0 (by omega)⟩)
        (fun _ _ q => AN 10 _ 0 (by omega)) (fun _ _ q => AN 10 _ 0 (by omega))
      have e : ∀ v i', v ≠ 7 → v ≠ 8 → v ≠ 9 → zv (zsetm (zset (zset (zset σ 7 (zg σ) (nI a)) 8 (zg σ) (nI b)) 9 (zg σ) (-1)) (zg σ) l) v i' = zv σ v i' := fun v i' a7 a8 a9 => by
        show zv (zset (zset (zset σ 7 (zg σ) (nI a)) 8 (zg σ) (nI b)) 9 (zg σ) (-1)) v i' = _
        rw [zv_ne (fun z => a9 z.1), zv_ne (fun z => a8 z.1), zv_ne (fun z => a7 z.1)]
      have ei : ∀ v i', i' ≠ zg σ → zv (zsetm (zset (zset (zset σ 7 (zg σ) (nI a)) 8 (zg σ) (nI b)) 9 (zg σ) (-1)) (zg σ) l) v i' = zv σ v i' := fun v i' a7 => by
        show zv (zset (zset (zset σ 7 (zg σ) (nI a)) 8 (zg σ) (nI b)) 9 (zg σ) (-1)) v i' = _
        rw [zv_ne (fun z => a7 z.2), zv_ne (fun z => a7 z.2), zv_ne (fun z => a7 z.2)]
      have sC : zcC w ad (zsetm (zset (zset (zset σ 7 (zg σ) (nI a)) 8 (zg σ) (nI b)) 9 (zg σ) (-1)) (zg σ) l) k i j = zcC w ad σ k i j := by
        by_cases kk : 20 ≤ k ∧ i = zg σ
        · unfold zcC
          have c2 : ¬ (i < zg (zsetm (zset (zset (zset σ 7 (zg σ) (nI a)) 8 (zg σ) (nI b)) 9 (zg σ) (-1)) (zg σ) l) ∧ j = 0) := fun z => by rw [kk.2] at z; exact Nat.lt_irrefl (zg σ) z.1
          rw [if_neg (by omega), if_neg (by omega), if_neg c2, if_neg (by omega), if_neg (by omega), if_neg (show ¬ (i < zg σ ∧ j = 0) from c2)]
        · have hi : 20 ≤ k → i ≠ zg σ := fun z y => kk ⟨z, y⟩
          exact zcC_congr rfl rfl (fun _ => e 6 0 (by decide) (by decide) (by decide)) (fun _ => by funext i; exact e 13 i (by decide) (by decide) (by decide)) (fun _ _ a ha => e a i (by omega) (by omega) (by omega)) (fun _ _ b _ => by rw [e 4 _ (by decide) (by decide) (by decide)]) (fun _ _ => ⟨e 4 _ (by decide) (by decide) (by decide), e 5 _ (by decide) (by decide) (by decide)⟩)
            (fun z => ⟨ei 9 i (hi (by omega)), e 12 _ (by decide) (by decide) (by decide)⟩) (fun z => ⟨ei 7 i (hi (by omega)), ei 8 i (hi (by omega))⟩) (fun z => if_neg (hi (by omega))) (fun _ => rfl)
            (fun z => zpr_of (ei 7 i (hi (by omega))) (ei 8 i (hi (by omega))) (e 10 _ (by decide) (by decide) (by decide)) (e 10 _ (by decide) (by decide) (by decide))) (fun z => zpr_of (ei 7 i (hi (by omega))) (ei 8 i (hi (by omega))) (e 11 _ (by decide) (by decide) (by decide)) (e 11 _ (by decide) (by decide) (by decide)))
      rw [sA, sB, sC]
    · rw [zcM_ad2 (fun k hk => AN k 0 0 (by omega))]
end ZWP
theorem zI.c20g {σ : zS} (hI : zI σ) (h : ¬ (20 : Int32) ≤ nI (zg σ)) : ¬ zg σ = 20 := fun z => h (by rw [z]; decide)
theorem zI.d20 {σ : zS} (hI : zI σ) (h : (20 : Int32) ≤ nI (zg σ)) : zg σ = 20 := by
  have := hI.g
  have z : nI 20 ≤ nI (zg σ) := h
  rw [nI_leI (by decide) (by omega)] at z
  omega
set_option maxHeartbeats 2000000 in
theorem ct_X1_file {w : zw_W} {la : Launch} (hl : la.stackTraces = false) {M : zw_M} {ad : Nat → Nat → Nat → Nat} {σ μ : zS} {th : Int32} {o : Int64} (hW : zW w M ad σ μ th o) (hI : zI σ) (x y : Int32) : zw_C w la yX1_file cX1_file 7 (Option.some Jvm.ClassFile.FieldType.int) (zrl 9 41 2037) [.ref (ad 0 0 0), .int x, .int y] M (zw_pi (zPo w ad μ th o (zop_file σ x y))) (zPx ["java/lang/IllegalArgumentException", "java/lang/IllegalStateException"] w ad σ μ th o (zop_file σ x y)) := by
  refine zw_enterN RX1 rfl (by decide) hl (by simp [Value.category]) (Nat.le_of_ble_eq_true rfl) (fun X hXl hXw K hE htab hcon => ?_)
  subst hXl; subst hXw
  show zw_Z X _ 0 0 0 [some (.ref (ad 0 0 0)), some (.int x), some (.int y), none, none, none, none] []
  refine zw_iload_n (x := x) (pc' := 1) K dX1_file_0 rfl rfl ?_
  refine zw_iload_n (x := y) (pc' := 2) K dX1_file_1 rfl rfl ?_
  refine zc_X1_159 (rest := []) (c' := 3) (n' := 18) (pc' := 5) K (ct_X1_pair hl M x y) rfl rfl dX1_file_2 rfl (Nat.le_of_ble_eq_true rfl) ⟨Nat.le_of_ble_eq_true rfl, Nat.le_of_ble_eq_true rfl⟩ ⟨Nat.le_of_ble_eq_true rfl, Nat.le_of_ble_eq_true rfl, Nat.le_of_ble_eq_true rfl, Nat.le_of_ble_eq_true rfl⟩ (zw_kr fun r M1 h => ?_) (fun E M1 h => ?_)
  · obtain ⟨h2, p, hr, hp0, eP⟩ := h
    subst hr
    obtain ⟨a, b, hab, hb, hmin, hmax, hsg, hsu⟩ := zpair_lh (σ := σ) h2
    rw [hmin, hmax] at eP
    have hP : M1 p = some (zw_eC 3 [.int (nI a), .int (nI b)]) := by rw [eP]; exact zw_us
    have hW1 : zW (zw_Xw X) M1 ad σ μ th o := by rw [eP]; exact hW.keep (fun c e he => zw_un' (zw_nn he hp0) he)
    refine zw_astore_n (lv' := [some (.ref (ad 0 0 0)), some (.int x), some (.int y), some (.ref p), none, none, none]) (pc' := 6) K dX1_file_5 rfl (by decide) rfl rfl ?_
    refine zw_aload_n (v := .ref (ad 0 0 0)) (pc' := 7) K dX1_file_6 rfl rfl rfl ?_
    refine zg_X1_32 (v := .ref (ad 2 0 0)) (pc' := 10) K hW1.c0 rfl dX1_file_7 rfl ?_
    refine zw_iload_n (x := x) (pc' := 11) K dX1_file_10 rfl rfl ?_
    refine zw_iload_n (x := y) (pc' := 12) K dX1_file_11 rfl rfl ?_
    refine zw_make2 (i := 2) (c' := 4) (n' := 20) (pc' := 17) K rfl hcon rfl (zm_at2 K.2.2.2.2.2.2.2.1 (K.2.2.2.2.1 _ q900)) rfl ⟨Nat.le_of_ble_eq_true rfl, Nat.le_of_ble_eq_true rfl, Nat.le_of_ble_eq_true rfl, Nat.le_of_ble_eq_true rfl⟩ (Nat.le_of_ble_eq_true rfl) dX1_file_12 rfl (fun q hq => ?_)
    refine zw_nmM (fun M41 eM41 => ?_)
    have hW42 : zW (zw_Xw X) M41 ad (σ) μ th o := by rw [eM41]; exact hW1.keep (fun a e he => zw_un' (zw_nn he hq) he)
    have hlq : M41 q = some (.inl (.inl (zw_k (zw_Xw X) (20 + 2), 2, .inl (fun j => if j = 0 then x else y)))) := by rw [eM41]; exact zw_us
    have upA : ∀ (c : Nat) (e : zw_En), M c = some e → M41 c = some e := fun c e he => by rw [eM41]; exact (fun z : M1 c = some e => zw_un' (zw_nn z hq) z) (by rw [eP]; exact zw_un' (zw_nn he hp0) he)
    have hP2 : M41 p = some (zw_eC 3 [.int (nI a), .int (nI b)]) := by rw [eM41]; exact zw_un' (zw_nn hP hq) hP
    refine zc_X1_133 (rest := []) (c' := 4) (n' := 20) (pc' := 20) K (ct_X1_sum2 hl M41 (ad 2 0 0) q (zg σ) (fun j => zb ((x == zv σ 7 j || x == zv σ 8 j) && (y == zv σ 7 j || y == zv σ 8 j))) hW42.c2 hlq (by have := hI.g; omega) (fun j hj => ⟨_, hW42.c20 hj⟩) (fun j hj => ct_X1_lambda_file_2 hl M41 (ad 20 j 0) x y (hW42.c20 hj) (hW42.c21 hj))) rfl rfl dX1_file_17 rfl (Nat.le_of_ble_eq_true rfl) ⟨Nat.le_of_ble_eq_true rfl, Nat.le_of_ble_eq_true rfl⟩ ⟨Nat.le_of_ble_eq_true rfl, Nat.le_of_ble_eq_true rfl, Nat.le_of_ble_eq_true rfl, Nat.le_of_ble_eq_true rfl⟩ (zw_kp ?_) zw_kn
    refine zw_nmi (fun cn ecn => ?_)
    refine zw_istore (lv' := [some (.ref (ad 0 0 0)), some (.int x), some (.int y), some (.ref p), some (.int cn), none, none]) (pc' := 22) K dX1_file_20 (by decide) rfl rfl ?_
    refine zw_iload (x := cn) (pc' := 24) K dX1_file_22 rfl rfl ?_
    refine zw_if_ne (tgt := 57) (pc' := 27) K dX1_file_24 (by decide) rfl (fun c24 => ?_) (fun c24 => ?_)
    · refine zw_iconst (v := 0) (pc' := 58) K dX1_file_57 (by decide) rfl ?_
      refine zc_X1_75 (rest := []) (c' := 5) (n' := 26) (pc' := 61) K (ct_X1_must hl M41 false) rfl rfl dX1_file_58 rfl (Nat.le_of_ble_eq_true rfl) ⟨Nat.le_of_ble_eq_true rfl, Nat.le_of_ble_eq_true rfl⟩ ⟨Nat.le_of_ble_eq_true rfl, Nat.le_of_ble_eq_true rfl, Nat.le_of_ble_eq_true rfl, Nat.le_of_ble_eq_true rfl⟩ (zw_kv fun M1 h => absurd h.1 (by decide)) (fun E M1 h => ?_)
      obtain ⟨h0, -, hM⟩ := h
      have hM := hM.symm
      subst h0; subst hM
      exact zw_out K hE htab ⟨Nat.le_of_ble_eq_true rfl, Nat.le_of_ble_eq_true rfl⟩ (zPx.mk 1 (c := 2) (by unfold zop_file; rw [if_neg (by rw [h2]; decide), if_pos (by rw [show zhad σ (zs_min x y) (zs_max x y) = true by (rw [← Bool.not_eq_false]; exact fun z => c24 (by rw [ecn]; exact (zhad_0 hI h2).mpr z)), Bool.true_or, Bool.true_or])]) (by decide) rfl hW42)
    · refine zw_aload_n (v := .ref (ad 0 0 0)) (pc' := 28) K dX1_file_27 rfl rfl rfl ?_
      refine zg_X1_32 (v := .ref (ad 2 0 0)) (pc' := 31) K hW42.c0 rfl dX1_file_28 rfl ?_
      refine zc_X1_1 (rest := []) (c' := 4) (n' := 20) (pc' := 36) K (ct_J2_size hl M41 (ad 2 0 0) hW42.c2) hW42.c2 rfl rfl dX1_file_31 rfl (Nat.le_of_ble_eq_true rfl) ⟨Nat.le_of_ble_eq_true rfl, Nat.le_of_ble_eq_true rfl⟩ ⟨Nat.le_of_ble_eq_true rfl, Nat.le_of_ble_eq_true rfl, Nat.le_of_ble_eq_true rfl, Nat.le_of_ble_eq_true rfl⟩ (zw_kp ?_) zw_kn
      refine zw_bipush (v := 20) (pc' := 38) K dX1_file_36 (by decide) rfl ?_
      refine zw_icmp_ge (tgt := 57) (pc' := 41) K dX1_file_38 (by decide) rfl (fun c38 => ?_) (fun c38 => ?_)
      · refine zw_iconst (v := 0) (pc' := 58) K dX1_file_57 (by decide) rfl ?_
        refine zc_X1_75 (rest := []) (c' := 5) (n' := 26) (pc' := 61) K (ct_X1_must hl M41 false) rfl rfl dX1_file_58 rfl (Nat.le_of_ble_eq_true rfl) ⟨Nat.le_of_ble_eq_true rfl, Nat.le_of_ble_eq_true rfl⟩ ⟨Nat.le_of_ble_eq_true rfl, Nat.le_of_ble_eq_true rfl, Nat.le_of_ble_eq_true rfl, Nat.le_of_ble_eq_true rfl⟩ (zw_kv fun M1 h => absurd h.1 (by decide)) (fun E M1 h => ?_)
        obtain ⟨h0, -, hM⟩ := h
        have hM := hM.symm
        subst h0; subst hM
        exact zw_out K hE htab ⟨Nat.le_of_ble_eq_true rfl, Nat.le_of_ble_eq_true rfl⟩ (zPx.mk 1 (c := 2) (by unfold zop_file; rw [if_neg (by rw [h2]; decide), if_pos (by rw [show (zg σ == 20) = true by (rw [hI.d20 c38]; rfl), Bool.or_true, Bool.true_or])]) (by decide) rfl hW42)
      · refine zw_aload_n (v := .ref (ad 0 0 0)) (pc' := 42) K dX1_file_41 rfl rfl rfl ?_
        refine zw_aload_n (v := .ref p) (pc' := 43) K dX1_file_42 rfl rfl rfl ?_
        refine zc_X1_163 (rest := []) (c' := 4) (n' := 20) (pc' := 46) K (ct_X1_suspicionOf hl hW42 hI (Nat.lt_trans hab hb) hb (Nat.ne_of_lt hab) hP2) hW42.c0 rfl rfl dX1_file_43 rfl (Nat.le_of_ble_eq_true rfl) ⟨Nat.le_of_ble_eq_true rfl, Nat.le_of_ble_eq_true rfl⟩ ⟨Nat.le_of_ble_eq_true rfl, Nat.le_of_ble_eq_true rfl, Nat.le_of_ble_eq_true rfl, Nat.le_of_ble_eq_true rfl⟩ (zw_kp ?_) zw_kn
        refine zw_aload_n (v := .ref (ad 0 0 0)) (pc' := 47) K dX1_file_46 rfl rfl rfl ?_
        refine zg_X1_39 (v := .int (zv σ 6 0)) (pc' := 50) K hW42.c0 rfl dX1_file_47 rfl ?_
        refine zw_icmp_lt (tgt := 57) (pc' := 53) K dX1_file_50 (by decide) rfl (fun c50 => ?_) (fun c50 => ?_)
        · refine zw_iconst (v := 0) (pc' := 58) K dX1_file_57 (by decide) rfl ?_
          refine zc_X1_75 (rest := []) (c' := 5) (n' := 26) (pc' := 61) K (ct_X1_must hl M41 false) rfl rfl dX1_file_58 rfl (Nat.le_of_ble_eq_true rfl) ⟨Nat.le_of_ble_eq_true rfl, Nat.le_of_ble_eq_true rfl⟩ ⟨Nat.le_of_ble_eq_true rfl, Nat.le_of_ble_eq_true rfl, Nat.le_of_ble_eq_true rfl, Nat.le_of_ble_eq_true rfl⟩ (zw_kv fun M1 h => absurd h.1 (by decide)) (fun E M1 h => ?_)
          obtain ⟨h0, -, hM⟩ := h
          have hM := hM.symm
          subst h0; subst hM
          exact zw_out K hE htab ⟨Nat.le_of_ble_eq_true rfl, Nat.le_of_ble_eq_true rfl⟩ (zPx.mk 1 (c := 2) (by unfold zop_file; rw [if_neg (by rw [h2]; decide), if_pos (by rw [show decide (zsusp σ x y < zv σ 6 0) = true by (rw [hsu] at c50; exact decide_eq_true c50), Bool.or_true])]) (by decide) rfl hW42)
        · refine zw_iconst (v := 1) (pc' := 54) K dX1_file_53 (by decide) rfl ?_
          refine zw_goto (tgt := 58) K dX1_file_54 (by decide) ?_
          refine zc_X1_75 (rest := []) (c' := 5) (n' := 26) (pc' := 61) K (ct_X1_must hl M41 true) rfl rfl dX1_file_58 rfl (Nat.le_of_ble_eq_true rfl) ⟨Nat.le_of_ble_eq_true rfl, Nat.le_of_ble_eq_true rfl⟩ ⟨Nat.le_of_ble_eq_true rfl, Nat.le_of_ble_eq_true rfl, Nat.le_of_ble_eq_true rfl, Nat.le_of_ble_eq_true rfl⟩ (zw_kv fun M1 h => ?_) (fun E M1 h => absurd h.2.1 (by decide))
          obtain ⟨-, hM⟩ := h
          have hM := hM.symm
          subst hM
          have hnc : ¬ (zhad σ (zs_min x y) (zs_max x y) || zg σ == 20 || decide (zsusp σ x y < zv σ 6 0)) = true := by rw [(zhad_0 hI h2).mp (by rw [← ecn]; exact c24), show (zg σ == 20) = false by simpa using hI.c20g c38, show decide (zsusp σ x y < zv σ 6 0) = false by (rw [hsu] at c50; exact decide_eq_false c50)]; decide
          have h20 := hI.c20g c38
          refine zw_new (c' := 6) (n' := 33) (pc' := 64) (fs := [.null, .null, .null, .null, .null, .int 0, .int 0]) K in_X6 (ci := 4) rfl tyX6 tyX6_ok q536 q537 q44 (by decide +kernel) ⟨Nat.le_of_ble_eq_true rfl, Nat.le_of_ble_eq_true rfl, Nat.le_of_ble_eq_true rfl, Nat.le_of_ble_eq_true rfl⟩ dX1_file_61 rfl (fun qi hqi => ?_)
          refine zw_nmM (fun M43 eM43 => ?_)
          have f44 : M43 (ad 0 0 0) = some (zw_eC 0 [.ref (ad 1 0 0), .ref (ad 2 0 0), .ref (ad 3 0 0), .int (zv σ 6 0)]) := by rw [eM43]; exact zw_un' (zw_nn hW42.c0 hqi) hW42.c0
          have f45 : M43 (ad 1 0 0) = some (zw_eL (zn σ) (fun t => ad 10 t 0)) := by rw [eM43]; exact zw_un' (zw_nn hW42.c1 hqi) hW42.c1
          have f46 : M43 (ad 2 0 0) = some (zw_eL (zg σ) (fun f => ad 20 f 0)) := by rw [eM43]; exact zw_un' (zw_nn hW42.c2 hqi) hW42.c2
          have f47 : M43 (ad 3 0 0) = some (zw_eI (zw_Xw X) 7 (zv σ 13)) := by rw [eM43]; exact zw_un' (zw_nn hW42.c3 hqi) hW42.c3
          have f48 : M43 p = some (zw_eC 3 [.int (nI a), .int (nI b)]) := by rw [eM43]; exact zw_un' (zw_nn hP2 hqi) hP2
          have f49 : M43 qi = some (zw_eC 4 [.null, .null, .null, .null, .null, .int 0, .int 0]) := by rw [eM43]; exact zw_us
          refine zw_dup (pc' := 65) K dX1_file_64 rfl rfl ?_
          refine zw_aload_n (v := .ref p) (pc' := 66) K dX1_file_65 rfl rfl rfl ?_
          refine zc_X1_178 (rest := [.ref qi]) (c' := 10) (n' := 53) (pc' := 69) K (ct_X6_init hl (ad 10 99 0) M43 qi p f49) rfl rfl dX1_file_66 rfl (Nat.le_of_ble_eq_true rfl) ⟨Nat.le_of_ble_eq_true rfl, Nat.le_of_ble_eq_true rfl⟩ ⟨Nat.le_of_ble_eq_true rfl, Nat.le_of_ble_eq_true rfl, Nat.le_of_ble_eq_true rfl, Nat.le_of_ble_eq_true rfl⟩ (zw_kv fun Ma h => ?_) zw_kn
          have upB : ∀ (c : Nat) (e : zw_En), M c = some e → M43 c = some e := fun c e he => by rw [eM43]; exact zw_un' (zw_nn (upA c e he) hqi) (upA c e he)
          have no : ∀ c : Nat, M43 c = none → M c = none := fun c hc => by cases hz : M c with | none => rfl | some e => have z := upB c e hz; rw [hc] at z; cases z
          have hqiM : M qi = none := by cases hz : M qi with | none => rfl | some e => have z := upA qi e hz; rw [hqi] at z; cases z
          obtain ⟨q1, q9, q17, q22, b1, b2, b3, b4⟩ := h
          have z22 := b3 _ List.mem_cons_self
          have z17 := b3 _ (List.mem_cons_of_mem _ List.mem_cons_self)
          have z9 := b3 _ (List.mem_cons_of_mem _ (List.mem_cons_of_mem _ List.mem_cons_self))
          have z1 := b3 _ (List.mem_cons_of_mem _ (List.mem_cons_of_mem _ (List.mem_cons_of_mem _ List.mem_cons_self)))
          have up : ∀ (c : Nat) (e : zw_En), M c = some e → Ma c = some e := fun c e he => b2 c e (zw_nn he hqiM) (upB c e he)
          have hpq : p ≠ qi := zw_nn hP2 hqi
          have hPa := b2 p _ hpq f48
          have n1 : p ≠ q1 := zw_nn f48 z1.1
          have n9 : p ≠ q9 := zw_nn f48 z9.1
          have n17 : p ≠ q17 := zw_nn f48 z17.1
          have n22 : p ≠ q22 := zw_nn f48 z22.1
          have m1 : q1 ≠ qi := z1.2.1
          have m9 : q9 ≠ qi := z9.2.1
          have m17 : q17 ≠ qi := z17.2.1
          have m22 : q22 ≠ qi := z22.2.1
          have hnd : [qi, p, q1, q9, q17, q22].Nodup := by
            simp only [List.map_cons, List.map_nil, List.nodup_cons, List.mem_cons, List.not_mem_nil, or_false, not_or, List.nodup_nil, and_true, not_false_eq_true] at b4 ⊢
            omega
          have hF0 : zfq (zw_Xw X) M Ma ad qi p q1 q9 q17 q22 a b [] := ⟨up, b1, hPa, z1.2.2, z9.2.2, z17.2.2, z22.2.2⟩
          have hna : M q1 = none := no q1 z1.1
          refine zw_astore (lv' := [some (.ref (ad 0 0 0)), some (.int x), some (.int y), some (.ref p), some (.int cn), some (.ref qi), none]) (pc' := 71) K dX1_file_69 rfl (by decide) rfl rfl ?_
          refine zw_iconst (v := 0) (pc' := 72) K dX1_file_71 (by decide) rfl ?_
          refine zw_istore (lv' := [some (.ref (ad 0 0 0)), some (.int x), some (.int y), some (.ref p), some (.int cn), some (.ref qi), some (.int 0)]) (pc' := 74) K dX1_file_72 (by decide) rfl rfl ?_
          have L74 : ∀ i : Nat, i ≤ zn σ → ∀ (xi : Int32) (M9 : zw_M), xi = nI i → (zfq (zw_Xw X) M M9 ad qi p q1 q9 q17 q22 a b (zf (zmlF σ x y) i [])) → zw_Z X M9 (10 + i) (53 + 64 * i) 74 [some (.ref (ad 0 0 0)), some (.int x), some (.int y), some (.ref p), some (.int cn), some (.ref qi), some (.int xi)] [] := by
            refine zl_up (fun i hi74 ih74 => ?_)
            intro xi M9  hxi hF9
            have hW9 := hW.keep hF9.1
            refine zw_iload (x := xi) (pc' := 76) K dX1_file_74 rfl rfl ?_
            refine zw_aload_n (v := .ref (ad 0 0 0)) (pc' := 77) K dX1_file_76 rfl rfl rfl ?_
            refine zg_X1_26 (v := .ref (ad 1 0 0)) (pc' := 80) K hW9.c0 rfl dX1_file_77 rfl ?_
            have hi30 : i ≤ 30 := Nat.le_trans hi74 hI.n
            refine zc_X1_1 (rest := [.int xi]) (c' := 10 + i) (n' := 53 + 64 * i) (pc' := 85) K (ct_J2_size hl M9 (ad 1 0 0) hW9.c1) hW9.c1 rfl rfl dX1_file_80 rfl (Nat.le_of_ble_eq_true rfl) ⟨Nat.le_of_ble_eq_true rfl, Nat.le_of_ble_eq_true rfl⟩ ⟨by show 10 + i + 0 ≤ 10 + i; omega, by show 53 + 64 * i + 0 ≤ 53 + 64 * i; omega, by show 10 + i ≤ 41; omega, by show 53 + 64 * i ≤ 2037; omega⟩ (zw_kp ?_) zw_kn
            refine zw_icmp_ge (tgt := 129) (pc' := 88) K dX1_file_85 (by decide) rfl (fun c85 => ?_) (fun c85 => ?_)
            · have hend74 : i = zn σ := zi_ge hxi rfl hi74 (by have := hI.n; omega) c85
              rw [hend74] at hF9
              refine zw_wide (c' := 40) (n' := 1973) (by omega) (by omega) ?_
              refine zw_aload_n (v := .ref (ad 0 0 0)) (pc' := 130) K dX1_file_129 rfl rfl rfl ?_
              refine zg_X1_32 (v := .ref (ad 2 0 0)) (pc' := 133) K hW9.c0 rfl dX1_file_130 rfl ?_
              refine zw_aload (v := .ref qi) (pc' := 135) K dX1_file_133 rfl rfl rfl ?_
              refine zc_X1_82 (rest := []) (c' := 41) (n' := 2037) (pc' := 140) K (ct_J2_add hl M9 (ad 2 0 0) (zg σ) qi hW9.c2 (by have := hI.g; omega) ⟨4, _, _, rfl, hF9.2.1, q886⟩ (fun i hi => ⟨4, _, _, rfl, hW9.c20 hi, q886⟩)) hW9.c2 rfl rfl dX1_file_135 rfl (Nat.le_of_ble_eq_true rfl) ⟨Nat.le_of_ble_eq_true rfl, Nat.le_of_ble_eq_true rfl⟩ ⟨Nat.le_of_ble_eq_true rfl, Nat.le_of_ble_eq_true rfl, Nat.le_of_ble_eq_true rfl, Nat.le_of_ble_eq_true rfl⟩ (zw_ki fun r Mc h => ?_) zw_kn
              obtain ⟨hr, hMc⟩ := h
              subst hr
              obtain ⟨g0, g1, g2, g3, g4, g5, g6⟩ := hF9
              have n02 : ad 0 0 0 ≠ ad 2 0 0 := zw_ne hW.c0 hW.c2 (by simp)
              have k2 : Mc (ad 2 0 0) = some (zw_eL (zg σ + 1) (zlu (fun f => ad 20 f 0) (zg σ) qi)) := by rw [hMc]; exact zw_us
              have k0 : Mc (ad 0 0 0) = some (zw_eC 0 [.ref (ad 1 0 0), .ref (ad 2 0 0), .ref (ad 3 0 0), .int (zv σ 6 0)]) := by rw [hMc]; exact zw_un' n02 (g0 _ _ hW.c0)
              have hc2 : ∀ c : Nat, M c = none → ad 2 0 0 ≠ c := fun c hc => zw_nn hW.c2 hc
              have kk : ∀ (c : Nat) (e : zw_En), c ≠ ad 2 0 0 → M c = some e → Mc c = some e := fun c e hc he => by rw [hMc]; exact zw_un' hc (g0 c e he)
              have u : ∀ (c : Nat) (e : zw_En), M c = none → M9 c = some e → Mc c = some e := fun c e hc he => by rw [hMc]; exact zw_un' (Ne.symm (hc2 c hc)) he
              have o9 := no q9 z9.1
              have o17 := no q17 z17.1
              have o22 := no q22 z22.1
              have hWc : zW (zw_Xw X) Mc (zadf ad (zg σ) (fun k => [qi, p, q1, q9, q17, q22].getD (k - 20) 0)) (zsetg (zsetm (zset (zset (zset σ 7 (zg σ) (nI a)) 8 (zg σ) (nI b)) 9 (zg σ) (-1)) (zg σ) (zml σ x y)) (zg σ + 1)) μ th o := by
                refine hW.filed hI h20 (fun k h1 h2 => ?_) (znw_inj hnd rfl) (u _ _ hqiM g1) (u _ _ hp0 g2) (u _ _ hna g3) (u _ _ o9 g4) (u _ _ o17 g5) (u _ _ o22 g6) k2 kk
                have hc : k = 20 ∨ k = 21 ∨ k = 22 ∨ k = 23 ∨ k = 24 ∨ k = 25 := by omega
                rcases hc with rfl | rfl | rfl | rfl | rfl | rfl
                · exact hqiM
                · exact hp0
                · exact hna
                · exact o9
                · exact o17
                · exact o22
              refine zw_pop (pc' := 141) K dX1_file_140 rfl rfl ?_
              refine zw_aload_n (v := .ref (ad 0 0 0)) (pc' := 142) K dX1_file_141 rfl rfl rfl ?_
              refine zg_X1_32 (v := .ref (ad 2 0 0)) (pc' := 145) K k0 rfl dX1_file_142 rfl ?_
              refine zc_X1_1 (rest := []) (c' := 41) (n' := 2037) (pc' := 150) K (ct_J2_size hl Mc (ad 2 0 0) k2) k2 rfl rfl dX1_file_145 rfl (Nat.le_of_ble_eq_true rfl) ⟨Nat.le_of_ble_eq_true rfl, Nat.le_of_ble_eq_true rfl⟩ ⟨Nat.le_of_ble_eq_true rfl, Nat.le_of_ble_eq_true rfl, Nat.le_of_ble_eq_true rfl, Nat.le_of_ble_eq_true rfl⟩ (zw_kp ?_) zw_kn
              refine zw_iconst (v := 1) (pc' := 151) K dX1_file_150 (by decide) rfl ?_
              refine zw_isub (pc' := 152) K dX1_file_151 rfl ?_
              exact zw_iret K hE dX1_file_152 ⟨Nat.le_of_ble_eq_true rfl, Nat.le_of_ble_eq_true rfl⟩ (zPo.mk (σ' := zsetg (zsetm (zset (zset (zset σ 7 (zg σ) (nI a)) 8 (zg σ) (nI b)) 9 (zg σ) (-1)) (zg σ) (zml σ x y)) (zg σ + 1)) (by unfold zop_file; rw [if_neg (by rw [h2]; decide), if_neg hnc, hmin, hmax, zsub1]) ⟨_, if_neg (by omega), if_neg (by omega), if_neg (by omega), hWc⟩)
            · have hlt74 : i < zn σ := zi_lt hxi rfl hi74 (by have := hI.n; omega) c85
              subst hxi
              refine zw_aload_n (v := .ref (ad 0 0 0)) (pc' := 89) K dX1_file_88 rfl rfl rfl ?_
              refine zw_iload (x := (nI i)) (pc' := 91) K dX1_file_89 rfl rfl ?_
              refine zw_aload_n (v := .ref p) (pc' := 92) K dX1_file_91 rfl rfl rfl ?_
              refine zc_X1_156 (rest := []) (c' := 10 + i) (n' := 53 + 64 * i) (pc' := 95) K (ct_X1_signOf hl hW9 hI i hlt74 (Nat.lt_trans hab hb) hb (Nat.ne_of_lt hab) hF9.2.2.1) hW9.c0 rfl rfl dX1_file_92 rfl (Nat.le_of_ble_eq_true rfl) ⟨Nat.le_of_ble_eq_true rfl, Nat.le_of_ble_eq_true rfl⟩ ⟨by show 10 + i + 0 ≤ 10 + i; omega, by show 53 + 64 * i + 0 ≤ 53 + 64 * i; omega, by show 10 + i ≤ 41; omega, by show 53 + 64 * i ≤ 2037; omega⟩ (zw_kp ?_) zw_kn
              refine zw_if_le (tgt := 123) (pc' := 98) K dX1_file_95 (by decide) rfl (fun c95 => ?_) (fun c95 => ?_)
              · rw [hsg] at c95
                refine zw_wide (c' := 10 + (i + 1)) (n' := 53 + 64 * (i + 1)) (by omega) (by omega) ?_
                refine zw_iinc (x := (nI i)) (lv' := [some (.ref (ad 0 0 0)), some (.int x), some (.int y), some (.ref p), some (.int cn), some (.ref qi), some (.int ((nI i) + 1))]) (pc' := 126) K dX1_file_123 rfl (by decide) rfl rfl ?_
                refine zw_goto (tgt := 74) K dX1_file_126 (by decide) ?_
                exact ih74 hlt74 ((nI i) + 1) M9 (nI_1 i) (by rw [zf_s]; unfold zmlF; rw [if_neg (Int32.not_lt.mpr c95)]; exact hF9)
              · rw [hsg] at c95
                refine zw_aload (v := .ref qi) (pc' := 100) K dX1_file_98 rfl rfl rfl ?_
                refine zg_X1_181 (v := .ref q1) (pc' := 103) K hF9.2.1 rfl dX1_file_100 rfl ?_
                refine zw_aload_n (v := .ref (ad 0 0 0)) (pc' := 104) K dX1_file_103 rfl rfl rfl ?_
                refine zg_X1_26 (v := .ref (ad 1 0 0)) (pc' := 107) K hW9.c0 rfl dX1_file_104 rfl ?_
                refine zw_iload (x := (nI i)) (pc' := 109) K dX1_file_107 rfl rfl ?_
                refine zc_X1_7 (rest := [.ref q1]) (c' := 10 + i) (n' := 53 + 64 * i) (pc' := 114) K (ct_J2_get hl M9 (ad 1 0 0) i hW9.c1 hlt74) hW9.c1 rfl rfl dX1_file_109 rfl (Nat.le_of_ble_eq_true rfl) ⟨Nat.le_of_ble_eq_true rfl, Nat.le_of_ble_eq_true rfl⟩ ⟨by show 10 + i + 0 ≤ 10 + i; omega, by show 53 + 64 * i + 0 ≤ 53 + 64 * i; omega, by show 10 + i ≤ 41; omega, by show 53 + 64 * i ≤ 2037; omega⟩ (zw_kpr ?_) zw_kn
                refine zw_cast (ci := 1) (pc' := 117) K rfl q156 (hW9.c10 hlt74) dX1_file_114 rfl ?_
                obtain ⟨k1, k2⟩ := zml_k (σ := σ) x y i
                have hl9 : (zf (zmlF σ x y) i []).length ≤ 30 := Nat.le_trans (zlen_le k1 k2) hi30
                have hl8 : ∀ t ∈ (zf (zmlF σ x y) i []), t < zn σ := fun t ht => Nat.lt_trans (k2 t ht) hlt74
                refine zc_X1_82 (rest := []) (c' := 10 + (i + 1)) (n' := 53 + 64 * (i + 1)) (pc' := 122) K (ct_J2_add hl M9 q1 (zf (zmlF σ x y) i []).length (ad 10 i 0) hF9.2.2.2.1 hl9 (zlk_T hW9 hlt74) (zlk_l hW9 hl8)) hF9.2.2.2.1 rfl rfl dX1_file_117 rfl (Nat.le_of_ble_eq_true rfl) ⟨Nat.le_of_ble_eq_true rfl, Nat.le_of_ble_eq_true rfl⟩ ⟨by show 10 + i + 1 ≤ 10 + (i + 1); omega, by show 53 + 64 * i + 64 ≤ 53 + 64 * (i + 1); omega, by show 10 + (i + 1) ≤ 41; omega, by show 53 + 64 * (i + 1) ≤ 2037; omega⟩ (zw_ki fun r Mb h => ?_) zw_kn
                obtain ⟨hr, hMb⟩ := h
                subst hr
                refine zw_pop (pc' := 123) K dX1_file_122 rfl rfl ?_
                refine zw_iinc (x := (nI i)) (lv' := [some (.ref (ad 0 0 0)), some (.int x), some (.int y), some (.ref p), some (.int cn), some (.ref qi), some (.int ((nI i) + 1))]) (pc' := 126) K dX1_file_123 rfl (by decide) rfl rfl ?_
                refine zw_goto (tgt := 74) K dX1_file_126 (by decide) ?_
                exact ih74 hlt74 ((nI i) + 1) Mb (nI_1 i) (by rw [zf_s]; unfold zmlF; rw [if_pos (Int32.not_le.mp c95)]; rw [hMb]; exact hF9.add hna hnd)
          exact L74 0 (Nat.zero_le _) 0 Ma rfl hF0
  · obtain ⟨h0, h2, hM⟩ := h
    have hM := hM.symm
    subst h0; subst hM
    exact zw_out K hE htab ⟨Nat.le_of_ble_eq_true rfl, Nat.le_of_ble_eq_true rfl⟩ (zPx.mk 0 (c := 1) (by simp [zop_file, h2]) (by decide) rfl hW)
